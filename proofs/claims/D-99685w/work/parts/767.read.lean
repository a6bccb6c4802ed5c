/-! A LAND read: the component's loop -/
theorem laC_ok {X : Nat → Nat} {L : Nat} {T : dvT} {c q p : Nat} (h : laC X L T c q = .inl p) : laW X L T c q = .inl (q + (wdS X L q).length) ∧ ¬ laK X L q = -1 ∧ ¬ fulS T c (laK X L q) := by
  by_cases h1 : laK X L q = -1
  · have hW : laW X L T c q = .inr (1, q) := by unfold laW; rw [if_pos h1]
    rw [laC_bad hW] at h; cases h
  · by_cases h2 : fulS T c (laK X L q)
    · have hW : laW X L T c q = .inr (3, q) := by unfold laW; rw [if_neg h1, if_pos h2]
      rw [laC_bad hW] at h; cases h
    · exact ⟨by unfold laW; rw [if_neg h1, if_neg h2], h1, h2⟩
theorem poR_inl {x : (Nat × Nat) ⊕ (Nat × Nat)} {p : Nat} (h : poR x = .inl p) : ∃ z, x = .inl z ∧ z.2 = p := by
  cases x with
  | inl z => exact ⟨z, rfl, by cases h; rfl⟩
  | inr e => cases h
theorem nuR_inl {X : Nat → Nat} {L : Nat} {lo hi : Int32} {r : rsP} {z : Nat × Nat} (h : nuR X L lo hi r = .inl z) : ∃ p, r = .inl p ∧ nbS X L lo hi p = .inl z := by
  cases r with
  | inl p => exact ⟨p, rfl, h⟩
  | inr e => cases h
theorem laC_le {X : Nat → Nat} {L : Nat} {T : dvT} {c q p : Nat} (hq : q ≤ L) (h : laC X L T c q = .inl p) : q < p ∧ p ≤ L := by
  obtain ⟨hW, -, -⟩ := laC_ok h
  have hw := wdS_le (X := X) (L := L) _ q rfl hq
  have hA : ∀ z, laA X L T c q = .inl z → q < z.2 ∧ z.2 ≤ L := fun z hz => by
    unfold laA at hz
    rw [hW] at hz
    obtain ⟨a1, a2, a3, a4⟩ := nbS_le hw hz
    exact ⟨by omega, a3⟩
  have hB : ∀ z, laB X L T c q = .inl z → q < z.2 ∧ z.2 ≤ L := fun z hz => by
    unfold laB at hz
    obtain ⟨p1, e1, e2⟩ := nuR_inl hz
    obtain ⟨y, e3, e4⟩ := poR_inl e1
    have := hA y e3
    obtain ⟨a1, a2, a3, a4⟩ := nbS_le (by omega) e2
    exact ⟨by omega, a3⟩
  unfold laC at h
  split at h
  · obtain ⟨z, e1, e2⟩ := poR_inl h
    rw [← e2]; exact hB z e1
  · split at h
    · unfold laQ at h
      cases hb : laB X L T c q with
      | inr e => rw [hb] at h; cases h
      | inl z =>
        rw [hb] at h
        dsimp only at h
        split at h
        · cases h
        · cases h; exact hB z hb
    · obtain ⟨z, e1, e2⟩ := poR_inl h
      rw [← e2]; exact hA z e1
section LAND
variable {b : Nat} {M : dwSt} {A : dvA} {ρ : Type} {N L : Nat} {T : dvT} {c q : Nat}
/-- what reading a land comes to -/
def laZ (b : Nat) (A : dvA) (N L : Nat) (R : dvT ⊕ (Nat × Nat)) (M : dwSt) (n u : Nat) (z : dwR9 Nat) : Prop := match R with
  | .inl T' => ∃ M2 c' p', z = some (.inl (N + 1), M2) ∧ fr (atN N) (atN N) n u M M2 ∧ lC b M2 A N L T' c' p'
  | .inr e => bdC N n u M e z
theorem laZ.pre {S Z : Nat → Nat → Prop} {R : dvT ⊕ (Nat × Nat)} {n u n' u' : Nat} {M1 M2 : dwSt} {z : dwR9 Nat} (h : laZ b A N L R M2 n u z) (f : fr S Z n' u' M1 M2) (hS : ∀ a k, S a k → N ≤ a) (hZ : ∀ a k, Z a k → N ≤ a) : laZ b A N L R M1 (n' + n) (u' + u) z := by
  cases R with
  | inl p =>
    obtain ⟨M3, c', p', e, f3, h3⟩ := h
    exact ⟨M3, c', p', e, (f.mono (S' := atN N) (Z' := atN N) hS hZ (Nat.le_refl _) (Nat.le_refl _)).trans f3, h3⟩
  | inr e => exact bdC.pre h f hS hZ
theorem laZ.le {R : dvT ⊕ (Nat × Nat)} {n u n' u' : Nat} {z : dwR9 Nat} (h : laZ b A N L R M n u z) (hn : n ≤ n') (hu : u ≤ u') : laZ b A N L R M n' u' z := by
  cases R with
  | inl p =>
    obtain ⟨M3, c', p', e, f3, h3⟩ := h
    exact ⟨M3, c', p', e, f3.mono (fun _ _ z => z) (fun _ _ z => z) hn hu, h3⟩
  | inr e => exact bdC.le h hn hu
theorem c_laL : ∀ n p f (T : dvT) (c : Nat) (M1 : dwSt), L - p ≤ n → n < f → lC b M1 A N L T c p → blS (xbN A) L p = p → room M1 (8 * (61 - c)) (240 * (61 - c)) → laZ b A N L (laF (xbN A) L n T c p) M1 (8 * (61 - c)) (240 * (61 - c)) (L_X12_reads_5 (KX Nat) N (fun (M3 : dwSt) => xgR M3 95 N (fun v4 => some (.inl v4, M3))) f M1) := by
  intro n
  have fin : ∀ p f (T : dvT) (c : Nat) (M1 : dwSt), ¬ p < L → 0 < f → lC b M1 A N L T c p → laZ b A N L (.inl T) M1 (8 * (61 - c)) (240 * (61 - c)) (L_X12_reads_5 (KX Nat) N (fun (M3 : dwSt) => xgR M3 95 N (fun v4 => some (.inl v4, M3))) f M1) := by
    intro p f T c M1 hp hf h
    obtain ⟨f', rfl⟩ : ∃ f', f = f' + 1 := ⟨f - 1, by omega⟩
    have hk := h.1.2.1.2.2.2.1
    have hpL := h.1.2.2.2.1
    refine ⟨M1, c, p, ?_, (fr.refl M1).mono (fun _ _ z => z) (fun _ _ z => z) (by omega) (by omega), h⟩
    rw [L_X12_reads_5, xgI_u (by rw [hk]; rfl), xgI_u (by rw [hk]; rfl), h.1.2.2.1, h.1.2.1.2.2.2.2.2, show p = L by omega, if_pos (of_eq_true (i_geT L)), xgR_v (by rw [hk]; rfl) h.2.1]
  induction n with
  | zero =>
    intro p f T c M1 h1 h2 h hbl hR
    exact fin p f T c M1 (by omega) (by omega) h
  | succ n ih =>
    intro p f T c M1 h1 h2 h hbl hR
    by_cases hp : p < L
    · obtain ⟨f', rfl⟩ : ∃ f', f = f' + 1 := ⟨f - 1, by omega⟩
      have hk := h.1.2.1.2.2.2.1
      have hpL := h.1.2.2.2.1
      have hN := h.1.2.1.1
      have hb := h.1.2.1.2.1
      have hc60 := h.2.2.2.2.2.1
      have hL600 : L ≤ 600 := Nat.le_trans h.1.2.2.2.2 h.1.1.2.1
      have hnb : ¬ (Int32.ofNat L ≤ Int32.ofNat p) := of_eq_false (i_geF hp (by omega))
      obtain ⟨M2, s, e2, f2, k2, s2, hs⟩ := cA_word h.1 (hR.le (by omega) (by omega))
      rw [hbl] at k2 s2
      have h2' := lC_to h f2 (fun a k _ z => Or.inl ⟨z.1, Or.inl z.2⟩) (fun _ _ _ z => z) k2
      have hk2 := k2.2.1.2.2.2.1
      have hR2 : room M2 (8 * (61 - c) - 4) (240 * (61 - c) - 34) := (hR.le (n' := 4 + (8 * (61 - c) - 4)) (u' := 34 + (240 * (61 - c) - 34)) (by omega) (by omega)).fr f2
      have q2 := c_clause (T := T) (c := c) h2' s2 (by omega) (hR2.le (by omega) (by omega))
      have hn2 := f2.n
      rw [L_X12_reads_5, xgI_u (by rw [hk]; rfl), xgI_u (by rw [hk]; rfl), h.1.2.2.1, h.1.2.1.2.2.2.2.2, if_neg hnb, xrk_u hk, e2, xmb_v, xrk_u hk2]
      rw [laF, if_pos hp]
      cases hC : laC (xbN A) L T c p with
      | inr e =>
        rw [hC] at q2
        have hE : laE (xbN A) L T c p = .inr e := by unfold laE; rw [hC]; rfl
        rw [hE]
        exact (bdC.pre (bdC.th (show bdC N 3 200 M2 e _ from q2)) f2 (fun a k z => by have := z.1; omega) (fun _ _ z => False.elim z)).le (by omega) (by omega)
      | inl p1 =>
        rw [hC] at q2
        obtain ⟨M3, e3, f3, h3⟩ := q2
        obtain ⟨hWW, hKK, hFF⟩ := laC_ok hC
        have hc : c < 60 := Nat.lt_of_le_of_ne hc60 fun e => hFF (Or.inl e)
        obtain ⟨g1, g2⟩ := laC_le (by omega) hC
        have hk3 := h3.1.2.1.2.2.2.1
        have hn3 := f3.n
        have hR3 : room M3 (8 * (61 - c) - 7) (240 * (61 - c) - 234) := (hR2.le (n' := 3 + (8 * (61 - c) - 7)) (u' := 200 + (240 * (61 - c) - 234)) (by omega) (by omega)).fr f3
        have q3 := cA_need (c := 59) (N := N) h3.1 (by omega) (by omega) (Nat.le_refl N) (hR3.le (by omega) (by omega))
        have q3' : ndC b A N 4 L N M3 (sgS (xbN A) L 59 p1) (m_X11_need M3 N 59) () := q3
        have F3 : fr (atN N) (atN N) 7 234 M1 M3 := ((f2.mono (S' := atN N) (Z' := atN N) (fun a k z => Nat.le_of_eq z.1.symm) (fun _ _ z => False.elim z) (Nat.le_refl _) (Nat.le_refl _)).trans f3).mono (fun _ _ z => z) (fun _ _ z => z) (by omega) (by omega)
        rw [e3, xth_v, xrk_u hk3]
        have hE : laE (xbN A) L T c p = sgS (xbN A) L 59 p1 := by unfold laE; rw [hC]; rfl
        rw [hE]
        cases hS : sgS (xbN A) L 59 p1 with
        | inr e =>
          rw [hS] at q3'
          exact (bdC.pre (bdC.th (show bdC N 1 8 M3 e _ from q3')) F3 (fun _ _ z => z) (fun _ _ z => z)).le (by omega) (by omega)
        | inl p2 =>
          rw [hS] at q3'
          obtain ⟨M4, e4, f4, k4⟩ := q3'
          have h4 := lC_to h3 f4 (fun a k _ z => Or.inl ⟨z.1, Or.inl z.2⟩) (fun _ _ _ z => z) k4
          have hk4 := k4.2.1.2.2.2.1
          have T4 := h4.2.2.1
          have hn4 := f4.n
          have f5 := frP M4 (N + 1) 31 (Int32.ofNat (c + 1))
          have k5 := k4.fr f5 (fun a k z => by have : a = N + 1 := z; exact ⟨by omega, fun e => by omega⟩) (fun _ _ z => False.elim z)
          have h5 : lC b (dwPI M4 (N + 1) 31 (Int32.ofNat (c + 1))) A N L (laT (xbN A) L T c p) (c + 1) p2 := ⟨k5, h4.2.1, lT_set T4 (by omega) ⟨rfl, rfl, rfl, rfl, rfl, rfl⟩ (if_neg (by omega)).symm (if_neg (by omega)).symm, di_eq, h4.2.2.2.2.1, by omega, h4.2.2.2.2.2.2.fr (by omega) f5 (fun a k z => by have : a = N + 1 := z; omega) (fun _ _ z => False.elim z)⟩
          have hk5 : dwK (dwPI M4 (N + 1) 31 (Int32.ofNat (c + 1))) N = (0, 4) := hk4
          rw [e4, xth_v, xgR_v (by rw [hk4]; rfl) h4.2.1, xgI_u (by rw [T4.2.1]; rfl), h4.2.2.2.1, xpI_u (by rw [T4.2.1]; rfl), i_succ, xrk_u hk5]
          have F5 : fr (atN N) (atN N) 7 234 M1 (dwPI M4 (N + 1) 31 (Int32.ofNat (c + 1))) := (F3.t0 (f4.mono (fun a k z => Nat.le_of_eq z.1.symm) (fun _ _ z => False.elim z) (Nat.le_refl _) (Nat.le_refl _))).t0 (f5.mono (fun a k z => by have : a = N + 1 := z; show N ≤ a; omega) (fun _ _ z => False.elim z) (Nat.le_refl _) (Nat.le_refl _))
          generalize dwPI M4 (N + 1) 31 (Int32.ofNat (c + 1)) = M5 at *
          obtain ⟨M6, e6, f6, k6⟩ := cA_sign k5
          have h6 := lC_to h5 f6 (fun a k _ z => Or.inl ⟨z.1, Or.inl z.2⟩) (fun _ _ _ z => z) k6
          have F6 := F5.t0 (f6.mono (fun a k z => Nat.le_of_eq z.1.symm) (fun _ _ z => False.elim z) (Nat.le_refl _) (Nat.le_refl _))
          rw [e6, xmb_v]
          have hsg := (blS_le (X := xbN A) (L := L) _ p1 rfl).1
          have hp2 : p1 < p2 := by
            unfold sgS at hS
            split at hS
            · cases hS; omega
            · cases hS
          have hbl2 := (blS_le (X := xbN A) (L := L) _ p2 rfl).1
          have hR6 : room M6 (8 * (61 - (c + 1))) (240 * (61 - (c + 1))) := (hR.le (n' := 7 + 8 * (61 - (c + 1))) (u' := 234 + 240 * (61 - (c + 1))) (by omega) (by omega)).fr F6
          exact (laZ.pre (ih (blS (xbN A) L p2) f' _ (c + 1) M6 (by omega) (by omega) h6 blS_bl hR6) F6 (fun _ _ z => z) (fun _ _ z => z)).le (by omega) (by omega)
    · rw [laF, if_neg hp]
      exact fin p f T c M1 hp (by omega) h
end LAND
