/-! A WORK read: what it says -/
abbrev stR : Type := (dgS → dgS) × Nat × Nat
abbrev rsW : Type := (stR × Nat) ⊕ (Nat × Nat)
def poW (x : rsW) : rsP := match x with
  | .inl u => .inl u.2
  | .inr e => .inr e
def vW (x : rsW) : stR := match x with
  | .inl u => u.1
  | .inr _ => (fun σ => σ, 1, 1)
def mkW (F : Nat → dgS → dgS) (x : (Nat × Nat) ⊕ (Nat × Nat)) : rsW := match x with
  | .inl z => .inl ((F z.1, 1, 1), z.2)
  | .inr e => .inr e
def mpW (t : stR) (r : rsP) : rsW := match r with
  | .inl p => .inl (t, p)
  | .inr e => .inr e
def hiN (n : Nat) : Int32 := Int32.ofNat n - 1
def stV (X : Nat → Nat) (L q : Nat) : Int32 := swv ((wdS X L q).take 10) swStep
def acW (T : dvT) (lw : (Nat → Int32) → Int32) (X : Nat → Nat) (L : Nat) (v : Int32) (q : Nat) : rsW := if v = 0 then mkW (fun a => stG T lw 0 a (vaR (nbS X L 0 (hiN (tJ T)) q))) (nuR X L 0 (hiN (tP T)) (poR (nbS X L 0 (hiN (tJ T)) q))) else if v = 1 then mkW (fun c => stG T lw 1 (vaR (nbS X L 0 (hiN (tP T)) q)) c) (nuR X L 1 9 (poR (nbS X L 0 (hiN (tP T)) q))) else if v = 2 then mkW (fun a => stG T lw 2 a 0) (nbS X L 0 (hiN (tP T)) q) else if v = 3 then mkW (fun a => stG T lw 3 a 0) (nbS X L 1 99 q) else .inl ((stG T lw 4 0 0, 1, 1), q)
def agF (X : Nat → Nat) (L : Nat) (rec : Nat → rsW) : Nat → List (dgS → dgS) → Nat → Nat → Nat → ((List (dgS → dgS) × Nat × Nat) × Nat) ⊕ (Nat × Nat)
  | 0, _, _, _, _ => .inr (1, 0)
  | m + 1, Gs, ln, dp, p => if blS X L p < L ∧ X (blS X L p) = 93 then .inl ((Gs, ln, dp), blS X L p + 1) else (match rec (blS X L p) with
    | .inl u => agF X L rec m (Gs ++ [u.1.1]) (ln + u.1.2.1) (max dp u.1.2.2) u.2
    | .inr e => .inr e)
def agW (X : Nat → Nat) (L : Nat) (rec : Nat → rsW) (q : Nat) : rsW := match sgR X L 91 (poR (nbS X L 0 60 q)) with
  | .inl p => (match agF X L rec (L + 1) [] 0 0 p with
    | .inl u => .inl ((agG (vaR (nbS X L 0 60 q)) (sqG u.1.1), u.1.2.1 + 1, u.1.2.2 + 1), u.2)
    | .inr e => .inr e)
  | .inr e => .inr e
def boW (T : dvT) (lw : (Nat → Int32) → Int32) (X : Nat → Nat) (L : Nat) (rec : Nat → rsW) (k q : Nat) : rsW := if stV X L q = 5 then (if k = 0 then .inr (3, q) else agW X L rec (q + (wdS X L q).length)) else acW T lw X L (stV X L q) (q + (wdS X L q).length)
/-- a step at p; k may still be opened -/
def stF (T : dvT) (lw : (Nat → Int32) → Int32) (X : Nat → Nat) (L : Nat) (rec : Nat → rsW) (k p : Nat) : rsW := if stV X L (blS X L p) = -1 then .inr (1, blS X L p) else mpW (vW (boW T lw X L rec k (blS X L p))) (sgR X L 59 (poW (boW T lw X L rec k (blS X L p))))
def stW (T : dvT) (lw : (Nat → Int32) → Int32) (X : Nat → Nat) (L : Nat) : Nat → Nat → rsW
  | 0 => stF T lw X L (fun _ => .inr (1, 0)) 0
  | k + 1 => stF T lw X L (stW T lw X L k) (k + 1)
def wkF (T : dvT) (lw : (Nat → Int32) → Int32) (X : Nat → Nat) (L : Nat) : Nat → List (dgS → dgS) → Nat → Nat → Nat → (List (dgS → dgS) × Nat × Nat) ⊕ (Nat × Nat)
  | 0, Gs, ln, dp, _ => .inl (Gs, ln, dp)
  | m + 1, Gs, ln, dp, p => if L ≤ p then .inl (Gs, ln, dp) else (match stW T lw X L 6 p with
    | .inl u => wkF T lw X L m (Gs ++ [u.1.1]) (ln + u.1.2.1) (max dp u.1.2.2) (blS X L u.2)
    | .inr e => .inr e)
def okW (L p k : Nat) (x : rsW) : Prop := ∀ t p', x = .inl (t, p') → p + 4 * t.2.1 ≤ p' ∧ p' ≤ L ∧ 1 ≤ t.2.1 ∧ t.2.2 ≤ k + 1
theorem swStep_len {ws : List Nat} {v : Int32} (h : swv ws swStep = v) (hv : ¬ v = -1) : 3 ≤ ws.length ∧ ws.length < 10 ∧ (∃ k, k < 6 ∧ v = Int32.ofNat k) ∧ (v = 5 → ws = kwAgain) := by
  unfold swStep at h
  simp only [swv] at h
  split at h
  · next e => subst e; subst h; exact ⟨by decide, by decide, ⟨1, by omega, rfl⟩, fun z => absurd z (by decide)⟩
  split at h
  · next e => subst e; subst h; exact ⟨by decide, by decide, ⟨4, by omega, rfl⟩, fun z => absurd z (by decide)⟩
  split at h
  · next e => subst e; subst h; exact ⟨by decide, by decide, ⟨3, by omega, rfl⟩, fun z => absurd z (by decide)⟩
  split at h
  · next e => subst e; subst h; exact ⟨by decide, by decide, ⟨0, by omega, rfl⟩, fun z => absurd z (by decide)⟩
  split at h
  · next e => subst e; subst h; exact ⟨by decide, by decide, ⟨5, by omega, rfl⟩, fun _ => rfl⟩
  split at h
  · next e => subst e; subst h; exact ⟨by decide, by decide, ⟨2, by omega, rfl⟩, fun z => absurd z (by decide)⟩
  exact absurd h.symm hv
theorem mkW_inl {F : Nat → dgS → dgS} {x : (Nat × Nat) ⊕ (Nat × Nat)} {t : stR} {p : Nat} (h : mkW F x = .inl (t, p)) : ∃ z, x = .inl (z, p) ∧ t = (F z, 1, 1) := by
  cases x with
  | inl z => cases h; exact ⟨z.1, rfl, rfl⟩
  | inr e => cases h
theorem acW_ok {T : dvT} {lw : (Nat → Int32) → Int32} {X : Nat → Nat} {L q : Nat} {v : Int32} (hq : q ≤ L) : ∀ t p', acW T lw X L v q = .inl (t, p') → q ≤ p' ∧ p' ≤ L ∧ t.2.1 = 1 ∧ t.2.2 = 1 := by
  intro t p' h
  unfold acW at h
  split at h
  · obtain ⟨z, e1, rfl⟩ := mkW_inl h
    obtain ⟨p1, e3, e4⟩ := nuR_inl e1
    obtain ⟨y, e5, e6⟩ := poR_inl e3
    obtain ⟨a1, a2, a3, a4⟩ := nbS_le hq e5
    obtain ⟨b1, b2, b3, b4⟩ := nbS_le (by omega) e4
    exact ⟨by show q ≤ p'; simp only at b1 b2 b3 e6; omega, b3, rfl, rfl⟩
  split at h
  · obtain ⟨z, e1, rfl⟩ := mkW_inl h
    obtain ⟨p1, e3, e4⟩ := nuR_inl e1
    obtain ⟨y, e5, e6⟩ := poR_inl e3
    obtain ⟨a1, a2, a3, a4⟩ := nbS_le hq e5
    obtain ⟨b1, b2, b3, b4⟩ := nbS_le (by omega) e4
    exact ⟨by show q ≤ p'; simp only at b1 b2 b3 e6; omega, b3, rfl, rfl⟩
  split at h
  · obtain ⟨z, e1, rfl⟩ := mkW_inl h
    obtain ⟨b1, b2, b3, b4⟩ := nbS_le hq e1
    exact ⟨by show q ≤ p'; simp only at b1 b2 b3; omega, b3, rfl, rfl⟩
  split at h
  · obtain ⟨z, e1, rfl⟩ := mkW_inl h
    obtain ⟨b1, b2, b3, b4⟩ := nbS_le hq e1
    exact ⟨by show q ≤ p'; simp only at b1 b2 b3; omega, b3, rfl, rfl⟩
  · cases h; exact ⟨Nat.le_refl _, hq, rfl, rfl⟩
theorem agF_ok {X : Nat → Nat} {L k : Nat} {rec : Nat → rsW} (hr : ∀ p, p ≤ L → okW L p k (rec p)) : ∀ m Gs ln dp p u, p ≤ L → agF X L rec m Gs ln dp p = .inl u → p + 4 * (u.1.2.1 - ln) + 1 ≤ u.2 ∧ ln ≤ u.1.2.1 ∧ u.2 ≤ L ∧ (dp ≤ k + 1 → u.1.2.2 ≤ k + 1) ∧ dp ≤ u.1.2.2 := by
  intro m
  induction m with
  | zero => intro Gs ln dp p u _ h; cases h
  | succ m ih =>
    intro Gs ln dp p u hp h
    obtain ⟨g1, g2⟩ := blS_le (X := X) (L := L) _ p rfl
    have g2 := g2 hp
    rw [agF] at h
    by_cases c : blS X L p < L ∧ X (blS X L p) = 93
    · rw [if_pos c] at h
      cases h
      exact ⟨by show p + 4 * (ln - ln) + 1 ≤ blS X L p + 1; omega, Nat.le_refl _, c.1, fun z => z, Nat.le_refl _⟩
    · rw [if_neg c] at h
      cases hu : rec (blS X L p) with
      | inr e => rw [hu] at h; cases h
      | inl w =>
        rw [hu] at h
        obtain ⟨a1, a2, a3, a4⟩ := hr _ g2 w.1 w.2 hu
        obtain ⟨b1, b2, b3, b4, b5⟩ := ih _ _ _ _ u a2 h
        exact ⟨by omega, by omega, b3, fun z => b4 (by omega), by omega⟩
theorem agW_ok {X : Nat → Nat} {L k q : Nat} {rec : Nat → rsW} (hq : q ≤ L) (hr : ∀ p, p ≤ L → okW L p k (rec p)) : ∀ t p', agW X L rec q = .inl (t, p') → q + 4 * t.2.1 ≤ p' + 1 ∧ p' ≤ L ∧ 1 ≤ t.2.1 ∧ t.2.2 ≤ k + 2 := by
  intro t p' h
  unfold agW at h
  cases h1 : sgR X L 91 (poR (nbS X L 0 60 q)) with
  | inr e => rw [h1] at h; cases h
  | inl p =>
    rw [h1] at h
    dsimp only at h
    obtain ⟨p1, e3, e4⟩ := sgR_inl h1
    obtain ⟨y, e5, e6⟩ := poR_inl e3
    obtain ⟨a1, a2, a3, a4⟩ := nbS_le hq e5
    obtain ⟨c1, c2⟩ := sgS_le e4
    cases h2 : agF X L rec (L + 1) [] 0 0 p with
    | inr e => rw [h2] at h; cases h
    | inl u =>
      rw [h2] at h
      cases h
      obtain ⟨b1, b2, b3, b4, b5⟩ := agF_ok hr _ _ _ _ _ u c2 h2
      exact ⟨by show q + 4 * (u.1.2.1 + 1) ≤ u.2 + 1; omega, b3, by show 1 ≤ u.1.2.1 + 1; omega, by show u.1.2.2 + 1 ≤ k + 2; have := b4 (by omega); omega⟩
theorem mpW_inl {t t' : stR} {r : rsP} {p : Nat} (h : mpW t r = .inl (t', p)) : r = .inl p ∧ t' = t := by
  cases r with
  | inl q => cases h; exact ⟨rfl, rfl⟩
  | inr e => cases h
theorem poW_inl {x : rsW} {p : Nat} (h : poW x = .inl p) : ∃ t, x = .inl (t, p) := by
  cases x with
  | inl z => cases h; exact ⟨z.1, rfl⟩
  | inr e => cases h
