/-! A WORK read: rows and depth are few -/
theorem wkF_ok {T : dvT} {lw : (Nat → Int32) → Int32} {X : Nat → Nat} {L : Nat} : ∀ m Gs ln dp p u, p ≤ L → 4 * ln ≤ p → dp ≤ 7 → wkF T lw X L m Gs ln dp p = .inl u → 4 * u.2.1 ≤ L ∧ u.2.2 ≤ 7 := by
  intro m
  induction m with
  | zero => intro Gs ln dp p u hp h1 h2 h; cases h; exact ⟨by show 4 * ln ≤ L; omega, h2⟩
  | succ m ih =>
    intro Gs ln dp p u hp h1 h2 h
    rw [wkF] at h
    by_cases c : L ≤ p
    · rw [if_pos c] at h; cases h; exact ⟨by show 4 * ln ≤ L; omega, h2⟩
    · rw [if_neg c] at h
      cases hu : stW T lw X L 6 p with
      | inr e => rw [hu] at h; cases h
      | inl v =>
        rw [hu] at h
        obtain ⟨a1, a2, a3, a4⟩ := stW_ok 6 p hp v.1 v.2 hu
        obtain ⟨g1, g2⟩ := blS_le (X := X) (L := L) _ v.2 rfl
        exact ih _ _ _ _ u (g2 a2) (by omega) (by omega) h
theorem wkS_ok {T : dvT} {lw : (Nat → Int32) → Int32} {X : Nat → Nat} {L : Nat} {u : List (dgS → dgS) × Nat × Nat} (h : wkS T lw X L = .inl u) : 4 * u.2.1 ≤ L ∧ u.2.2 ≤ 7 := wkF_ok L [] 0 0 _ u ((blS_le (X := X) (L := L) _ 0 rfl).2 (Nat.zero_le _)) (by omega) (by omega) h
