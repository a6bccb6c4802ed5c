/-! A LAW read: what it says; a term: its codes, its meaning, its depth -/
abbrev tmT : Type := List (Int32 × Int32) × ((Nat → Int32) → Int32) × Nat
abbrev rsL : Type := (tmT × Nat) ⊕ (Nat × Nat)
def plT (n : Nat) : tmT := ([(0, Int32.ofNat n)], fun _ => Int32.ofNat n, 1)
def faT (k : Nat) : tmT := ([(1, Int32.ofNat k)], fun f => f k, 1)
def opT (o : Int32) (x y : tmT) : tmT := (x.1 ++ y.1 ++ [(o, 0)], fun f => opS o (x.2.1 f) (y.2.1 f), max x.2.2 y.2.2 + 1)
def poL (x : rsL) : rsP := match x with
  | .inl v => .inl v.2
  | .inr e => .inr e
def tmL (x : rsL) : tmT := match x with
  | .inl v => v.1
  | .inr _ => plT 0
def mapL (t : tmT) (r : rsP) : rsL := match r with
  | .inl p => .inl (t, p)
  | .inr e => .inr e
def bndL (r : rsP) (f : Nat → rsL) : rsL := match r with
  | .inl p => f p
  | .inr e => .inr e
def twA (X : Nat → Nat) (L : Nat) (rec : Nat → rsL) (p : Nat) : rsL := bndL (sgS X L 91 p) rec
def twB (X : Nat → Nat) (L : Nat) (rec : Nat → rsL) (p : Nat) : rsL := bndL (sgR X L 44 (poL (twA X L rec p))) rec
def twG (X : Nat → Nat) (L : Nat) (rec : Nat → rsL) (p : Nat) (o : Int32) : rsL := mapL (opT o (tmL (twA X L rec p)) (tmL (twB X L rec p))) (sgR X L 93 (poL (twB X L rec p)))
def unV (X : Nat → Nat) (L q : Nat) : Int32 := swv ((wdS X L q).take 10) swUnit
def unW (X : Nat → Nat) (L : Nat) (rec : Nat → rsL) (k q : Nat) : rsL := if unV X L q = -1 then .inr (1, q) else if unV X L q = 10 ∨ unV X L q = 11 then (if k = 0 then .inr (3, q) else twG X L rec (q + (wdS X L q).length) (if unV X L q = 10 then 7 else 8)) else .inl (faT (unV X L q).toNatClampNeg, q + (wdS X L q).length)
def unN (X : Nat → Nat) (L q : Nat) : rsL := match nbS X L 0 999 q with
  | .inl z => .inl (plT z.1, z.2)
  | .inr e => .inr e
def unG (X : Nat → Nat) (L : Nat) (rec : Nat → rsL) (k p : Nat) : rsL := if blS X L p < L ∧ X (blS X L p) = 40 then (if k = 0 then .inr (3, blS X L p) else mapL (tmL (rec (blS X L p + 1))) (sgR X L 41 (poL (rec (blS X L p + 1))))) else if blS X L p < L ∧ dgN (X (blS X L p)) then unN X L (blS X L p) else unW X L rec k (blS X L p)
def prO (X : Nat → Nat) (L q : Nat) : Int32 := if q < L ∧ X q = 42 then 4 else if q < L ∧ X q = 47 then 5 else if q < L ∧ X q = 37 then 6 else -1
def smO (X : Nat → Nat) (L q : Nat) : Int32 := if q < L ∧ X q = 43 then 2 else if q < L ∧ X q = 45 then 3 else -1
def prF (X : Nat → Nat) (L : Nat) (rec : Nat → rsL) (k : Nat) : Nat → tmT → Nat → rsL
  | 0, t, p => .inl (t, blS X L p)
  | n + 1, t, p => if prO X L (blS X L p) = -1 then .inl (t, blS X L p) else (match unG X L rec k (blS X L p + 1) with
    | .inl u => prF X L rec k n (opT (prO X L (blS X L p)) t u.1) u.2
    | .inr e => .inr e)
def prG (X : Nat → Nat) (L : Nat) (rec : Nat → rsL) (k p : Nat) : rsL := match unG X L rec k p with
  | .inl u => prF X L rec k L u.1 u.2
  | .inr e => .inr e
def smF (X : Nat → Nat) (L : Nat) (rec : Nat → rsL) (k : Nat) : Nat → tmT → Nat → rsL
  | 0, t, p => .inl (t, blS X L p)
  | n + 1, t, p => if smO X L (blS X L p) = -1 then .inl (t, blS X L p) else (match prG X L rec k (blS X L p + 1) with
    | .inl u => smF X L rec k n (opT (smO X L (blS X L p)) t u.1) u.2
    | .inr e => .inr e)
def smG (X : Nat → Nat) (L : Nat) (rec : Nat → rsL) (k p : Nat) : rsL := match prG X L rec k p with
  | .inl u => smF X L rec k L u.1 u.2
  | .inr e => .inr e
def smS (X : Nat → Nat) (L : Nat) : Nat → Nat → rsL
  | 0 => smG X L (fun _ => .inr (1, 0)) 0
  | k + 1 => smG X L (smS X L k) (k + 1)
theorem tmv_le {f : Nat → Int32} : ∀ (d d' : Nat) (cs : List (Int32 × Int32)) (v : Int32), d ≤ d' → tmv f d cs v → tmv f d' cs v := by
  intro d
  induction d with
  | zero => intro d' cs v _ h; exact False.elim h
  | succ d ih =>
    intro d' cs v hd h
    obtain ⟨d'', rfl⟩ : ∃ d'', d' = d'' + 1 := ⟨d' - 1, by omega⟩
    rcases h with h | h | ⟨o, c1, c2, v1, v2, h1, h2, h3, h4, h5⟩
    · exact Or.inl h
    · exact Or.inr (Or.inl h)
    · exact Or.inr (Or.inr ⟨o, c1, c2, v1, v2, h1, ih d'' c1 v1 (by omega) h2, ih d'' c2 v2 (by omega) h3, h4, h5⟩)
/-- a term as it may be -/
def tmG (t : tmT) : Prop := 1 ≤ t.1.length ∧ t.2.2 ≤ t.1.length ∧ (∀ f, tmv f t.2.2 t.1 (t.2.1 f)) ∧ lext t.2.1
theorem tmG_pl {n : Nat} : tmG (plT n) := ⟨Nat.le_refl _, Nat.le_refl _, fun f => Or.inl rfl, fun f g h => rfl⟩
theorem tmG_fa {k : Nat} (hk : k < 10) : tmG (faT k) := ⟨Nat.le_refl _, Nat.le_refl _, fun f => Or.inr (Or.inl ⟨k, hk, rfl, rfl⟩), fun f g h => h k hk⟩
theorem tmG_op {o : Int32} {x y : tmT} (ho : 2 ≤ o ∧ o ≤ 8) (hx : tmG x) (hy : tmG y) : tmG (opT o x y) := by
  obtain ⟨x1, x2, x3, x4⟩ := hx
  obtain ⟨y1, y2, y3, y4⟩ := hy
  have hl : (opT o x y).1.length = x.1.length + y.1.length + 1 := by
    show (x.1 ++ y.1 ++ [(o, 0)]).length = _
    rw [List.length_append, List.length_append]; rfl
  refine ⟨by omega, ?_, fun f => Or.inr (Or.inr ⟨o, x.1, y.1, x.2.1 f, y.2.1 f, ho, tmv_le _ _ _ _ (Nat.le_max_left _ _) (x3 f), tmv_le _ _ _ _ (Nat.le_max_right _ _) (y3 f), rfl, rfl⟩), fun f g h => ?_⟩
  · rw [hl]
    show max x.2.2 y.2.2 + 1 ≤ _
    omega
  · show opS o (x.2.1 f) (y.2.1 f) = opS o (x.2.1 g) (y.2.1 g)
    rw [x4 f g h, y4 f g h]
/-- what is read from p on, if anything -/
def okL (L p : Nat) (x : rsL) : Prop := ∀ t p', x = .inl (t, p') → p + t.1.length ≤ p' ∧ p' ≤ L ∧ tmG t
theorem sgS_le {X : Nat → Nat} {L c p p' : Nat} (h : sgS X L c p = .inl p') : p < p' ∧ p' ≤ L := by
  have := (blS_le (X := X) (L := L) _ p rfl).1
  unfold sgS at h
  split at h
  · next hx => cases h; exact ⟨by omega, hx.1⟩
  · cases h
theorem opT_len (o : Int32) (x y : tmT) : (opT o x y).1.length = x.1.length + y.1.length + 1 := by
  show (x.1 ++ y.1 ++ [(o, 0)]).length = _
  rw [List.length_append, List.length_append]; rfl
theorem poL_inl {x : rsL} {p : Nat} (h : poL x = .inl p) : ∃ t, x = .inl (t, p) := by
  cases x with
  | inl z => cases h; exact ⟨z.1, rfl⟩
  | inr e => cases h
theorem sgR_inl {X : Nat → Nat} {L c p : Nat} {r : rsP} (h : sgR X L c r = .inl p) : ∃ q, r = .inl q ∧ sgS X L c q = .inl p := by
  cases r with
  | inl q => exact ⟨q, rfl, h⟩
  | inr e => cases h
theorem bndL_inl {r : rsP} {f : Nat → rsL} {u : tmT × Nat} (h : bndL r f = .inl u) : ∃ p, r = .inl p ∧ f p = .inl u := by
  cases r with
  | inl p => exact ⟨p, rfl, h⟩
  | inr e => cases h
theorem mapL_inl {r : rsP} {t t' : tmT} {p : Nat} (h : mapL t r = .inl (t', p)) : r = .inl p ∧ t' = t := by
  cases r with
  | inl q => cases h; exact ⟨rfl, rfl⟩
  | inr e => cases h
theorem twG_ok {X : Nat → Nat} {L p : Nat} {rec : Nat → rsL} {o : Int32} (ho : 2 ≤ o ∧ o ≤ 8) (hr : ∀ p, p ≤ L → okL L p (rec p)) : okL L p (twG X L rec p o) := by
  intro t p' h
  obtain ⟨h1, h2⟩ := mapL_inl h
  obtain ⟨q5, e5, s5⟩ := sgR_inl h1
  obtain ⟨t2, e4⟩ := poL_inl e5
  obtain ⟨q3, e3, r3⟩ := bndL_inl (show bndL _ rec = .inl (t2, q5) from e4)
  obtain ⟨q2, e2, s2⟩ := sgR_inl e3
  obtain ⟨t1, e1⟩ := poL_inl e2
  obtain ⟨q1, s1, r1⟩ := bndL_inl (show bndL _ rec = .inl (t1, q2) from e1)
  obtain ⟨a1, a2⟩ := sgS_le s1
  obtain ⟨b1, b2, b3⟩ := hr q1 a2 t1 q2 r1
  obtain ⟨c1, c2⟩ := sgS_le s2
  obtain ⟨d1, d2, d3⟩ := hr q3 c2 t2 q5 r3
  obtain ⟨f1, f2⟩ := sgS_le s5
  rw [h2, e1, e4]
  refine ⟨?_, f2, tmG_op ho b3 d3⟩
  rw [opT_len]
  show p + (t1.1.length + t2.1.length + 1) ≤ p'
  omega
theorem swUnit_len {ws : List Nat} {v : Int32} (h : swv ws swUnit = v) (hv : ¬ v = -1) : 3 ≤ ws.length ∧ ws.length < 10 ∧ (v = 10 ∨ v = 11 ∨ ∃ k, k < 10 ∧ v = Int32.ofNat k) ∧ (v = 10 → ws = kwLeast) ∧ (v = 11 → ws = kwMost) := by
  unfold swUnit at h
  simp only [swv] at h
  split at h
  · next e => subst e; subst h; exact ⟨by decide, by decide, Or.inr (Or.inr ⟨9, by omega, rfl⟩), fun z => absurd z (by decide), fun z => absurd z (by decide)⟩
  split at h
  · next e => subst e; subst h; exact ⟨by decide, by decide, Or.inr (Or.inr ⟨0, by omega, rfl⟩), fun z => absurd z (by decide), fun z => absurd z (by decide)⟩
  split at h
  · next e => subst e; subst h; exact ⟨by decide, by decide, Or.inr (Or.inr ⟨7, by omega, rfl⟩), fun z => absurd z (by decide), fun z => absurd z (by decide)⟩
  split at h
  · next e => subst e; subst h; exact ⟨by decide, by decide, Or.inr (Or.inr ⟨8, by omega, rfl⟩), fun z => absurd z (by decide), fun z => absurd z (by decide)⟩
  split at h
  · next e => subst e; subst h; exact ⟨by decide, by decide, Or.inr (Or.inl rfl), fun z => absurd z (by decide), fun _ => rfl⟩
  split at h
  · next e => subst e; subst h; exact ⟨by decide, by decide, Or.inr (Or.inr ⟨6, by omega, rfl⟩), fun z => absurd z (by decide), fun z => absurd z (by decide)⟩
  split at h
  · next e => subst e; subst h; exact ⟨by decide, by decide, Or.inr (Or.inr ⟨3, by omega, rfl⟩), fun z => absurd z (by decide), fun z => absurd z (by decide)⟩
  split at h
  · next e => subst e; subst h; exact ⟨by decide, by decide, Or.inr (Or.inr ⟨2, by omega, rfl⟩), fun z => absurd z (by decide), fun z => absurd z (by decide)⟩
  split at h
  · next e => subst e; subst h; exact ⟨by decide, by decide, Or.inr (Or.inr ⟨1, by omega, rfl⟩), fun z => absurd z (by decide), fun z => absurd z (by decide)⟩
  split at h
  · next e => subst e; subst h; exact ⟨by decide, by decide, Or.inr (Or.inr ⟨5, by omega, rfl⟩), fun z => absurd z (by decide), fun z => absurd z (by decide)⟩
  split at h
  · next e => subst e; subst h; exact ⟨by decide, by decide, Or.inl rfl, fun _ => rfl, fun z => absurd z (by decide)⟩
  split at h
  · next e => subst e; subst h; exact ⟨by decide, by decide, Or.inr (Or.inr ⟨4, by omega, rfl⟩), fun z => absurd z (by decide), fun z => absurd z (by decide)⟩
  exact absurd h.symm hv
theorem unW_ok {X : Nat → Nat} {L k q : Nat} {rec : Nat → rsL} (hq : q ≤ L) (hr : ∀ p, p ≤ L → okL L p (rec p)) : okL L q (unW X L rec k q) := by
  intro t p' h
  have hw := wdS_le (X := X) (L := L) _ q rfl hq
  unfold unW at h
  by_cases c1 : unV X L q = -1
  · rw [if_pos c1] at h; cases h
  · rw [if_neg c1] at h
    by_cases c2 : unV X L q = 10 ∨ unV X L q = 11
    · rw [if_pos c2] at h
      by_cases c3 : k = 0
      · rw [if_pos c3] at h; cases h
      · rw [if_neg c3] at h
        have ho : (2 : Int32) ≤ (if unV X L q = 10 then 7 else 8) ∧ (if unV X L q = 10 then (7 : Int32) else 8) ≤ 8 := by
          split <;> exact ⟨by decide, by decide⟩
        obtain ⟨a1, a2, a3⟩ := twG_ok ho hr t p' h
        exact ⟨by omega, a2, a3⟩
    · rw [if_neg c2] at h
      cases h
      obtain ⟨a1, a2, a3, -⟩ := swUnit_len (ws := (wdS X L q).take 10) (v := unV X L q) rfl c1
      rw [List.length_take] at a1 a2
      rcases a3 with a3 | a3 | ⟨k', hk', e⟩
      · exact absurd (Or.inl a3) c2
      · exact absurd (Or.inr a3) c2
      · rw [e, i_nat (by omega)]
        exact ⟨by show q + 1 ≤ _; omega, hw, tmG_fa hk'⟩
theorem unG_ok {X : Nat → Nat} {L k p : Nat} {rec : Nat → rsL} (hp : p ≤ L) (hr : ∀ p, p ≤ L → okL L p (rec p)) : okL L p (unG X L rec k p) := by
  obtain ⟨g1, g2⟩ := blS_le (X := X) (L := L) _ p rfl
  have g2 := g2 hp
  intro t p' h
  unfold unG at h
  generalize blS X L p = q at *
  by_cases c1 : q < L ∧ X q = 40
  · rw [if_pos c1] at h
    by_cases c3 : k = 0
    · rw [if_pos c3] at h; cases h
    · rw [if_neg c3] at h
      obtain ⟨h1, h2⟩ := mapL_inl h
      obtain ⟨q5, e5, s5⟩ := sgR_inl h1
      obtain ⟨t2, e4⟩ := poL_inl e5
      obtain ⟨a1, a2, a3⟩ := hr (q + 1) c1.1 t2 q5 e4
      obtain ⟨f1, f2⟩ := sgS_le s5
      rw [h2, e4]
      exact ⟨by show p + t2.1.length ≤ p'; omega, f2, a3⟩
  · rw [if_neg c1] at h
    by_cases c2 : q < L ∧ dgN (X q)
    · rw [if_pos c2] at h
      unfold unN at h
      cases hn : nbS X L 0 999 q with
      | inr e => rw [hn] at h; cases h
      | inl z =>
        rw [hn] at h
        cases h
        obtain ⟨a1, a2, a3, a4⟩ := nbS_le g2 hn
        exact ⟨by show p + 1 ≤ _; omega, a3, tmG_pl⟩
    · rw [if_neg c2] at h
      obtain ⟨a1, a2, a3⟩ := unW_ok g2 hr t p' h
      exact ⟨by omega, a2, a3⟩
theorem prO_lt {X : Nat → Nat} {L q : Nat} (h : ¬ prO X L q = -1) : q < L ∧ 2 ≤ prO X L q ∧ prO X L q ≤ 8 := by
  unfold prO at *
  split
  · next c => exact ⟨c.1, by decide, by decide⟩
  · next c1 =>
    rw [if_neg c1] at h
    split
    · next c => exact ⟨c.1, by decide, by decide⟩
    · next c2 =>
      rw [if_neg c2] at h
      split
      · next c => exact ⟨c.1, by decide, by decide⟩
      · next c3 => rw [if_neg c3] at h; exact absurd rfl h
theorem smO_lt {X : Nat → Nat} {L q : Nat} (h : ¬ smO X L q = -1) : q < L ∧ 2 ≤ smO X L q ∧ smO X L q ≤ 8 := by
  unfold smO at *
  split
  · next c => exact ⟨c.1, by decide, by decide⟩
  · next c1 =>
    rw [if_neg c1] at h
    split
    · next c => exact ⟨c.1, by decide, by decide⟩
    · next c2 => rw [if_neg c2] at h; exact absurd rfl h
theorem prF_ok {X : Nat → Nat} {L k : Nat} {rec : Nat → rsL} (hr : ∀ p, p ≤ L → okL L p (rec p)) : ∀ n t p q, q + t.1.length ≤ p → p ≤ L → tmG t → okL L q (prF X L rec k n t p) := by
  intro n
  induction n with
  | zero =>
    intro t p q h1 h2 h3 t' p' e
    cases e
    obtain ⟨g1, g2⟩ := blS_le (X := X) (L := L) _ p rfl
    exact ⟨by omega, g2 h2, h3⟩
  | succ n ih =>
    intro t p q h1 h2 h3 t' p' e
    obtain ⟨g1, g2⟩ := blS_le (X := X) (L := L) _ p rfl
    have g2 := g2 h2
    rw [prF] at e
    by_cases c : prO X L (blS X L p) = -1
    · rw [if_pos c] at e; cases e; exact ⟨by omega, g2, h3⟩
    · rw [if_neg c] at e
      obtain ⟨o1, o2⟩ := prO_lt c
      cases hu : unG X L rec k (blS X L p + 1) with
      | inr z => rw [hu] at e; cases e
      | inl u =>
        rw [hu] at e
        obtain ⟨a1, a2, a3⟩ := unG_ok (by omega) hr u.1 u.2 hu
        exact ih _ _ _ (by rw [opT_len]; omega) a2 (tmG_op o2 h3 a3) t' p' e
theorem prG_ok {X : Nat → Nat} {L k p : Nat} {rec : Nat → rsL} (hp : p ≤ L) (hr : ∀ p, p ≤ L → okL L p (rec p)) : okL L p (prG X L rec k p) := by
  intro t p' e
  unfold prG at e
  cases hu : unG X L rec k p with
  | inr z => rw [hu] at e; cases e
  | inl u =>
    rw [hu] at e
    obtain ⟨a1, a2, a3⟩ := unG_ok hp hr u.1 u.2 hu
    exact prF_ok hr L _ _ _ a1 a2 a3 t p' e
theorem smF_ok {X : Nat → Nat} {L k : Nat} {rec : Nat → rsL} (hr : ∀ p, p ≤ L → okL L p (rec p)) : ∀ n t p q, q + t.1.length ≤ p → p ≤ L → tmG t → okL L q (smF X L rec k n t p) := by
  intro n
  induction n with
  | zero =>
    intro t p q h1 h2 h3 t' p' e
    cases e
    obtain ⟨g1, g2⟩ := blS_le (X := X) (L := L) _ p rfl
    exact ⟨by omega, g2 h2, h3⟩
  | succ n ih =>
    intro t p q h1 h2 h3 t' p' e
    obtain ⟨g1, g2⟩ := blS_le (X := X) (L := L) _ p rfl
    have g2 := g2 h2
    rw [smF] at e
    by_cases c : smO X L (blS X L p) = -1
    · rw [if_pos c] at e; cases e; exact ⟨by omega, g2, h3⟩
    · rw [if_neg c] at e
      obtain ⟨o1, o2⟩ := smO_lt c
      cases hu : prG X L rec k (blS X L p + 1) with
      | inr z => rw [hu] at e; cases e
      | inl u =>
        rw [hu] at e
        obtain ⟨a1, a2, a3⟩ := prG_ok (by omega) hr u.1 u.2 hu
        exact ih _ _ _ (by rw [opT_len]; omega) a2 (tmG_op o2 h3 a3) t' p' e
theorem smG_ok {X : Nat → Nat} {L k p : Nat} {rec : Nat → rsL} (hp : p ≤ L) (hr : ∀ p, p ≤ L → okL L p (rec p)) : okL L p (smG X L rec k p) := by
  intro t p' e
  unfold smG at e
  cases hu : prG X L rec k p with
  | inr z => rw [hu] at e; cases e
  | inl u =>
    rw [hu] at e
    obtain ⟨a1, a2, a3⟩ := prG_ok hp hr u.1 u.2 hu
    exact smF_ok hr L _ _ _ a1 a2 a3 t p' e
theorem smS_ok {X : Nat → Nat} {L : Nat} : ∀ k p, p ≤ L → okL L p (smS X L k p) := by
  intro k
  induction k with
  | zero => intro p hp; exact smG_ok hp (fun p _ t p' e => by cases e)
  | succ k ih => intro p hp; exact smG_ok hp ih
