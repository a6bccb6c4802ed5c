/-! all slots for seasons, by their tags -/
def slA (b t : Nat) : Nat := if t < 100 then b + 35 else if t < 200 then b + 36 else b + 37
def slK (t : Nat) : Nat := if t < 100 then t - 10 else if t < 200 then t - 100 else t - 200
def okT (t : Nat) : Prop := (10 ≤ t ∧ t < 26) ∨ (100 ≤ t ∧ t < 103) ∨ (200 ≤ t ∧ t < 248)
def slN (t : Nat) : Nat := if t < 100 then 16 else if t < 200 then 3 else 48
theorem sl_35 {b r : Nat} (h : r < 16) : slA b (10 + r) = b + 35 ∧ slK (10 + r) = r := by
  unfold slA slK; rw [if_pos (by omega), if_pos (by omega)]; exact ⟨rfl, by omega⟩
theorem sl_36 {b r : Nat} (h : r < 3) : slA b (100 + r) = b + 36 ∧ slK (100 + r) = r := by
  unfold slA slK; rw [if_neg (by omega), if_pos (by omega), if_neg (by omega), if_pos (by omega)]; exact ⟨rfl, by omega⟩
theorem sl_37 {b r : Nat} : slA b (200 + r) = b + 37 ∧ slK (200 + r) = r := by
  unfold slA slK; rw [if_neg (by omega), if_neg (by omega), if_neg (by omega), if_neg (by omega)]; exact ⟨rfl, by omega⟩
theorem sl_ne {b t t' : Nat} (h : okT t) (h' : okT t') (e1 : slA b t' = slA b t) (e2 : slK t' = slK t) : t' = t := by
  unfold okT at h h'
  unfold slA at e1
  unfold slK at e2
  rcases h with h | h | h <;> rcases h' with h' | h' | h'
  all_goals
    first
    | (rw [if_pos (by omega), if_pos (by omega)] at e2; omega)
    | (rw [if_neg (by omega), if_pos (by omega), if_neg (by omega), if_pos (by omega)] at e2; omega)
    | (rw [if_neg (by omega), if_neg (by omega), if_neg (by omega), if_neg (by omega)] at e2; omega)
    | (exfalso; split at e1 <;> split at e1 <;> first | omega | (split at e1 <;> first | omega | (split at e1 <;> omega)))
theorem sl_b {b t : Nat} (h : okT t) : b + 35 ≤ slA b t ∧ slA b t ≤ b + 37 ∧ slK t < slN t ∧ slN t < 100 := by
  unfold okT at h
  unfold slA slK slN
  rcases h with h | h | h
  · rw [if_pos (by omega), if_pos (by omega), if_pos (by omega)]; omega
  · rw [if_neg (by omega), if_pos (by omega), if_neg (by omega), if_pos (by omega), if_neg (by omega), if_pos (by omega)]; omega
  · rw [if_neg (by omega), if_neg (by omega), if_neg (by omega), if_neg (by omega), if_neg (by omega), if_neg (by omega)]; omega
def cBun (b : Nat) (w : Nat → Nat) (M : dwSt) : Prop := ∀ t, okT t → cSlot b w M (slA b t) (slK t) t
def cHat (b : Nat) (M : dwSt) (t n : Nat) (r : Nat → Int32) : Prop := cHas M (slA b t) (slK t) n r
section KEPT
variable {b : Nat} {w : Nat → Nat} {M : dwSt}
theorem sl_kd (hs : Sh b M) {t : Nat} (h : okT t) : dwK M (slA b t) = (5, slN t) := by
  unfold okT at h
  unfold slA slN
  rcases h with h | h | h
  · rw [if_pos (by omega), if_pos (by omega)]; exact kd35 hs
  · rw [if_neg (by omega), if_pos (by omega), if_neg (by omega), if_pos (by omega)]; exact kd36 hs
  · rw [if_neg (by omega), if_neg (by omega), if_neg (by omega), if_neg (by omega)]; exact kd37 hs
theorem kept_t {t src n : Nat} {r : Nat → Int32} (hs : Sh b M) (hR : room M 6 82) (hB : cBun b w M) (ht : okT t) (hsrc : cSea b M src n r) (hd : src + 6 ≤ b + 562 ∨ ∀ i, i < 6 → w (src + i) ≠ t) :
    ∃ M1 w', m_X1_kept M b (slA b t) (Int32.ofNat (slK t)) src = some ((), M1) ∧ (∀ a, a < dwN M → w' a = w a) ∧ fr (sTag b w' t) (zAt (slA b t) (slK t)) 6 82 M M1 ∧ cBun b w' M1 ∧ cHat b M1 t n r ∧ ∀ t' n' r', okT t' → t' ≠ t → cHat b M t' n' r' → cHat b M1 t' n' r' := by
  have hn := shN hs
  obtain ⟨l1, l2, l3, l4⟩ := sl_b (b := b) ht
  obtain ⟨M1, w', e, hw, f, q1, q2⟩ := c_kept hs hR (sl_kd hs ht) l3 l4 (by omega) (hB t ht) hsrc hd
  have hne : ∀ t', okT t' → t' ≠ t → ¬ zAt (slA b t) (slK t) (slA b t') (slK t') := fun t' h' hx q => hx (sl_ne ht h' q.1 q.2)
  refine ⟨M1, w', e, hw, f, fun t' ht' => ?_, q2, fun t' n' r' ht' hx h => ?_⟩
  · by_cases hx : t' = t
    · subst hx; exact q1
    · obtain ⟨m1, m2, m3, m4⟩ := sl_b (b := b) ht'
      exact cslot_g ((hB t' ht').wo hw) (by omega) f (hne t' ht' hx) (fun a j ha _ q => by have := q.1; omega)
  · obtain ⟨m1, m2, m3, m4⟩ := sl_b (b := b) ht'
    exact chas_g h ((hB t' ht').wo hw) (by omega) f (hne t' ht' hx) (fun a j ha e2 q => by have := q.2; omega)
theorem bun_of {n : Nat} {P : Nat × (Nat → Nat → Int32)} {I : Nat × (Nat → Nat) × (Nat → Nat → Int32) × (Nat → Nat → Nat → Int32)} (hP : cPaP b w M n P) (hI : cImP b w M n I) : cBun b w M := by
  intro t ht
  rcases ht with h | h | h
  · obtain ⟨r, rfl⟩ : ∃ r, t = 10 + r := ⟨t - 10, by omega⟩
    rw [(sl_35 (b := b) (r := r) (by omega)).1, (sl_35 (b := b) (r := r) (by omega)).2]
    exact hP.2.1 r (by omega)
  · obtain ⟨r, rfl⟩ : ∃ r, t = 100 + r := ⟨t - 100, by omega⟩
    rw [(sl_36 (b := b) (r := r) (by omega)).1, (sl_36 (b := b) (r := r) (by omega)).2]
    exact hI.2.1 r (by omega)
  · obtain ⟨r, rfl⟩ : ∃ r, t = 200 + r := ⟨t - 200, by omega⟩
    rw [(sl_37 (b := b) (r := r)).1, (sl_37 (b := b) (r := r)).2]
    exact hI.2.2.1 r (by omega)
theorem bun_35 (h : cBun b w M) : ∀ r, r < 16 → cSlot b w M (b + 35) r (10 + r) := fun r hr => by
  have := h (10 + r) (Or.inl (by omega))
  rwa [(sl_35 (b := b) hr).1, (sl_35 (b := b) hr).2] at this
theorem bun_36 (h : cBun b w M) : ∀ r, r < 3 → cSlot b w M (b + 36) r (100 + r) := fun r hr => by
  have := h (100 + r) (Or.inr (Or.inl (by omega)))
  rwa [(sl_36 (b := b) hr).1, (sl_36 (b := b) hr).2] at this
theorem bun_37 (h : cBun b w M) : ∀ r, r < 48 → cSlot b w M (b + 37) r (200 + r) := fun r hr => by
  have := h (200 + r) (Or.inr (Or.inr (by omega)))
  rwa [(sl_37 (b := b)).1, (sl_37 (b := b)).2] at this
theorem hat_35 {r n : Nat} {x : Nat → Int32} (hr : r < 16) : cHat b M (10 + r) n x ↔ cHas M (b + 35) r n x := by
  unfold cHat; rw [(sl_35 (b := b) hr).1, (sl_35 (b := b) hr).2]
theorem hat_36 {r n : Nat} {x : Nat → Int32} (hr : r < 3) : cHat b M (100 + r) n x ↔ cHas M (b + 36) r n x := by
  unfold cHat; rw [(sl_36 (b := b) hr).1, (sl_36 (b := b) hr).2]
theorem hat_37 {r n : Nat} {x : Nat → Int32} : cHat b M (200 + r) n x ↔ cHas M (b + 37) r n x := by
  unfold cHat; rw [(sl_37 (b := b)).1, (sl_37 (b := b)).2]
/-- the season that a slot holds -/
theorem hat_sea {t n : Nat} {x : Nat → Int32} (hB : cBun b w M) (ht : okT t) (h : cHat b M t n x) : ∃ s, dwR M (slA b t) (slK t) = some s ∧ cSea b M s n x ∧ b + 562 ≤ s ∧ ∀ i, i < 6 → w (s + i) = t := by
  obtain ⟨s, h1, h2⟩ := h
  rcases hB t ht with h | ⟨s', h3, h4, h5, h6⟩
  · rw [h] at h1; cases h1
  · rw [h1] at h3; cases h3; exact ⟨s, h1, ⟨h4, h2⟩, h5, h6⟩
end KEPT
