/-! A WORK read: the component's list of steps -/
section WK
variable {b : Nat} {w : Nat → Nat} {M : dwSt} {A : dvA} {T : dvT} {lw : (Nat → Int32) → Int32} {N d L : Nat}
def sWl (N n0 : Nat) : Nat → Nat → Prop := fun a k => sLc N a k ∨ n0 ≤ a
def zWl (n0 : Nat) : Nat → Nat → Prop := fun a _ => n0 ≤ a
theorem c_wkL {l n0 : Nat} {K : dwSt → dwR9 Nat} (hL : L ≤ 150) (hN0 : N < n0) (hl : n0 ≤ l) : ∀ m f Gs ln dp p M e cap g, L - p ≤ m → m < f → 4 * Gs.length ≤ p → blS (xbN A) L p = p → wkC b w M A T N d L 6 p → (n0 ≤ e ∧ e ≠ l) → rwL M l Gs.length e cap g → (∀ i G, Gs[i]? = some G → cStp (fun a => n0 ≤ a ∧ a ≠ l ∧ a ≠ e) M T lw dp (g i) G) → wroom M L p → match wkF T lw (xbN A) L m Gs ln dp p with
    | .inl u => ∃ M2 e2 cap2 g2, L_X22_reads_14 (KX Nat) N l K f M = K M2 ∧ fr (sWl N n0) (zWl n0) (3 * (L - p)) (60 * (L - p)) M M2 ∧ wkC b w M2 A T N d L 6 L ∧ (n0 ≤ e2 ∧ e2 ≠ l) ∧ rwL M2 l u.1.length e2 cap2 g2 ∧ (∀ i G, u.1[i]? = some G → cStp (fun a => n0 ≤ a ∧ a ≠ l ∧ a ≠ e2) M2 T lw u.2.2 (g2 i) G)
    | .inr e => bdC N (3 * (L - p) + 10) (60 * (L - p) + 60) M e (L_X22_reads_14 (KX Nat) N l K f M) := by
  intro m
  have fin : ∀ f Gs (ln dp p : Nat) (M : dwSt) e cap g, ¬ p < L → 0 < f → wkC b w M A T N d L 6 p → (n0 ≤ e ∧ e ≠ l) → rwL M l (Gs : List (dgS → dgS)).length e cap g → (∀ i G, Gs[i]? = some G → cStp (fun a => n0 ≤ a ∧ a ≠ l ∧ a ≠ e) M T lw dp (g i) G) → ∃ M2 e2 cap2 g2, L_X22_reads_14 (KX Nat) N l K f M = K M2 ∧ fr (sWl N n0) (zWl n0) (3 * (L - p)) (60 * (L - p)) M M2 ∧ wkC b w M2 A T N d L 6 L ∧ (n0 ≤ e2 ∧ e2 ≠ l) ∧ rwL M2 l Gs.length e2 cap2 g2 ∧ (∀ i G, Gs[i]? = some G → cStp (fun a => n0 ≤ a ∧ a ≠ l ∧ a ≠ e2) M2 T lw dp (g2 i) G) := by
    intro f Gs ln dp p M e cap g hp hf hk he hLl hG
    obtain ⟨f, rfl⟩ : ∃ f', f = f' + 1 := ⟨f - 1, by omega⟩
    have hkN := hk.1.2.1.2.2.2.1
    have hpL := hk.1.2.2.2.1
    have ep : p = L := by omega
    have i91 := hk.1.2.1.2.2.2.2.2
    refine ⟨M, e, cap, g, ?_, (fr.refl M).mono (fun _ _ z => z) (fun _ _ z => z) (by omega) (by omega), by rw [ep] at hk; exact hk, he, hLl, hG⟩
    rw [L_X22_reads_14, xgI_u (by rw [hkN]; rfl), hk.1.2.2.1, xgI_u (by rw [hkN]; rfl), i91, ep, if_pos (Int32.le_refl _)]
  induction m with
  | zero =>
    intro f Gs ln dp p M e cap g h1 h2 h4 hbl hk he hLl hG hR
    exact fin f Gs ln dp p M e cap g (by omega) (by omega) hk he hLl hG
  | succ m ih =>
    intro f Gs ln dp p M e cap g h1 h2 h4 hbl hk he hLl hG hR
    rw [wkF]
    by_cases hp : L ≤ p
    · rw [if_pos hp]
      exact fin f Gs ln dp p M e cap g (by omega) (by omega) hk he hLl hG
    · rw [if_neg hp]
      obtain ⟨f, rfl⟩ : ∃ f', f = f' + 1 := ⟨f - 1, by omega⟩
      have hkN := hk.1.2.1.2.2.2.1
      have hNN := hk.1.2.1.1
      have hpL := hk.1.2.2.2.1
      have i91 := hk.1.2.1.2.2.2.2.2
      have r := c_stW (lw := lw) hL 6 40 (by omega) p M hk hR
      rw [L_X22_reads_14, xgI_u (by rw [hkN]; rfl), hk.1.2.2.1, xgI_u (by rw [hkN]; rfl), i91, if_neg (show ¬ Int32.ofNat L ≤ Int32.ofNat p by rw [i_le (by omega) (by omega)]; exact hp), xrk_u hkN]
      cases hx : stW T lw (xbN A) L 6 p with
      | inr e' =>
        rw [hx] at r
        exact bdC.th r
      | inl u =>
        rw [hx] at r
        obtain ⟨M3, o, e3, f3, l3, ⟨p3, p3'⟩, t3⟩ := r
        have n3 := f3.n
        have lN : l < dwN M := hLl.2.2.2.2.2.2.1.1
        have eN : e < dwN M := hLl.2.2.2.2.2.2.1.2
        have L3 : rwL M3 l Gs.length e cap g := rwL_fr hLl f3 (fun z => by have := z.1; omega) (fun z => z) (fun k z => z)
        have fr3 : frV (fun a => n0 ≤ a ∧ a ≠ l ∧ a ≠ e) (sLc N) nz := fun a k ha => ⟨fun z => by have := z.1; have := ha.1; omega, fun z => z⟩
        obtain ⟨cq, kq, hcq⟩ := cStp_kind t3
        have hoN : o < dwN M3 := by
          cases hd : u.1.2.2 with
          | zero => rw [hd] at t3; exact False.elim t3
          | succ d' => rw [hd] at t3; exact t3.1.2
        have hR3 : room M3 (1 + (3 * (L - u.2) + 10)) (150 + (60 * (L - u.2) + 60)) := by
          unfold wroom at hR
          exact (hR.le (n' := (3 * (u.2 - p) - 1) + (1 + (3 * (L - u.2) + 10))) (u' := (60 * (u.2 - p) - 150) + (150 + (60 * (L - u.2) + 60))) (by omega) (by omega)).fr f3
        obtain ⟨M4, e4, cap4, ea4, f4, L4, he4⟩ := c_add L3 kq hcq hoN (by omega) (hR3.le (by omega) (by omega))
        have n4 := f4.n
        have hb := l3.1.2.1.2.1
        have l4 : wkC b w M4 A T N d L 6 u.2 := wk_to l3 f4 (fun a k _ z => by have := z.1; exact ⟨by omega, fun e => by omega⟩) (fun a k _ z => by rcases z with z | z; have := z.1; omega; omega) (l3.1.fr f4 (fun a k z => by have := z.1; exact ⟨by omega, fun e => by omega⟩) (fun a k z => by rcases z with z | z; have := z.1; exact ⟨by omega, by omega⟩; exact ⟨by omega, by omega⟩))
        have hk4 := l4.1.2.1.2.2.2.1
        obtain ⟨M5, e5, f5, l5⟩ := wk_sign l4
        obtain ⟨g1, g2⟩ := blS_le (X := xbN A) (L := L) _ u.2 rfl
        have g2 := g2 p3'
        have n5 := f5.n
        have hle4 : n0 ≤ e4 ∧ e4 ≠ l := by rcases he4 with z | z <;> rw [z] <;> exact ⟨by omega, by omega⟩
        have frX : frV (fun a => n0 ≤ a ∧ a ≠ l ∧ a ≠ e ∧ a ≠ e4) (fun a k => a = l ∧ (k = 124 ∨ k = 126)) (fun a k => (a = l ∧ k = 125) ∨ a = e) := fun a k ha => ⟨fun z => ha.2.1 z.1, fun z => z.elim (fun z => ha.2.1 z.1) (fun z => ha.2.2.1 z)⟩
        have frY : frV (fun a => n0 ≤ a ∧ a ≠ l ∧ a ≠ e4) (sPo N) nz := fun a k ha => ⟨fun z => by have := z.1; have := ha.1; omega, fun z => z⟩
        have up : ∀ dd o' G', cStp (fun a => n0 ≤ a ∧ a ≠ l ∧ a ≠ e ∧ a ≠ e4) M3 T lw dd o' G' → cStp (fun a => n0 ≤ a ∧ a ≠ l ∧ a ≠ e4) M5 T lw dd o' G' := fun dd o' G' h => cStp_fr f5 frY _ _ _ (cStp_V (fun a _ ha => ⟨ha.1, ha.2.1, ha.2.2.2⟩) _ _ _ (cStp_fr f4 frX _ _ _ h))
        have hNM0 : n0 ≤ dwN M := by omega
        have tn : cStp (fun a => n0 ≤ a ∧ a ≠ l ∧ a ≠ e4) M5 T lw u.1.2.2 o u.1.1 := up _ _ _ (cStp_V (fun a ha1 ha2 => ⟨by omega, by omega, by omega, by rcases he4 with z | z <;> omega⟩) _ _ _ t3)
        have G5 : ∀ i G, (Gs ++ [u.1.1])[i]? = some G → cStp (fun a => n0 ≤ a ∧ a ≠ l ∧ a ≠ e4) M5 T lw (max dp u.1.2.2) ((fun p => if p = Gs.length then o else g p) i) G := fun i G hi => by
          by_cases hlt : i < Gs.length
          · rw [List.getElem?_append_left hlt] at hi
            dsimp only
            rw [if_neg (by omega)]
            exact cStp_le _ _ _ _ (Nat.le_max_left _ _) (up _ _ _ (cStp_V (fun a ha1 ha2 => ⟨ha2.1, ha2.2.1, ha2.2.2, by rcases he4 with z | z; rw [z]; exact ha2.2.2; omega⟩) _ _ _ (cStp_fr f3 fr3 _ _ _ (hG i G hi))))
          · have hi2 : i < (Gs ++ [u.1.1]).length := (List.getElem?_eq_some_iff.mp hi).1
            rw [List.length_append] at hi2
            have hi3 : i < Gs.length + 1 := hi2
            have ei : i = Gs.length := by omega
            subst ei
            rw [List.getElem?_append_right (Nat.le_refl _), Nat.sub_self] at hi
            cases hi
            dsimp only
            rw [if_pos rfl]
            exact cStp_le _ _ _ _ (Nat.le_max_right _ _) tn
        have F5 : fr (sWl N n0) (zWl n0) (3 * (u.2 - p)) (60 * (u.2 - p)) M M5 := (((f3.mono (S' := sWl N n0) (Z' := zWl n0) (fun a k z => Or.inl z) (fun _ _ z => False.elim z) (Nat.le_refl _) (Nat.le_refl _)).trans (f4.mono (S' := sWl N n0) (Z' := zWl n0) (fun a k z => Or.inr (by omega)) (fun a k z => by unfold zWl; omega) (Nat.le_refl _) (Nat.le_refl _))).t0 (f5.mono (fun a k z => Or.inl (sPo_c a k z)) (fun _ _ z => False.elim z) (Nat.le_refl _) (Nat.le_refl _))).mono (fun _ _ z => z) (fun _ _ z => z) (by omega) (by omega)
        have L5 : rwL M5 l (Gs ++ [u.1.1]).length e4 cap4 (fun p => if p = Gs.length then o else g p) := by
          rw [List.length_append]
          exact rwL_fr L4 f5 (fun z => by have := z.1; omega) (fun z => z) (fun k z => z)
        have hR5 : wroom M5 L (blS (xbN A) L u.2) := by
          unfold wroom
          exact (hR3.le (n' := 1 + (0 + (3 * (L - blS (xbN A) L u.2) + 10))) (u' := 150 + (0 + (60 * (L - blS (xbN A) L u.2) + 60))) (by omega) (by omega)).fr f4 |>.fr f5
        have r5 := ih f (Gs ++ [u.1.1]) (ln + u.1.2.1) (max dp u.1.2.2) (blS (xbN A) L u.2) M5 e4 cap4 _ (by omega) (by omega) (by rw [List.length_append]; show 4 * (Gs.length + 1) ≤ _; omega) blS_bl l5 hle4 L5 G5 hR5
        rw [e3, xth_v, xrk_u L3.1, ea4, xmb_v, xrk_u hk4, e5, xmb_v]
        dsimp only
        generalize wkF T lw (xbN A) L m (Gs ++ [u.1.1]) (ln + u.1.2.1) (max dp u.1.2.2) (blS (xbN A) L u.2) = R at r5 ⊢
        cases R with
        | inr e' => exact (bdC.pre r5 F5 (fun a k z => by rcases z with z | z; have := z.1; omega; omega) (fun a k z => by have : n0 ≤ a := z; omega)).le (by omega) (by omega)
        | inl v =>
          obtain ⟨M6, e6, cap6, g6, a3, a4, a5, a7, a8, a9⟩ := r5
          exact ⟨M6, e6, cap6, g6, a3, (F5.trans a4).mono (fun _ _ z => z) (fun _ _ z => z) (by omega) (by omega), a5, a7, a8, a9⟩
end WK
