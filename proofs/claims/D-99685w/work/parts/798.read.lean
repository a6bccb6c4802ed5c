/-! A WORK read: the component reads steps again and again -/
theorem cStp_kind {V : Nat → Prop} {M : dwSt} {T : dvT} {lw : (Nat → Int32) → Int32} {d o : Nat} {F : dgS → dgS} (h : cStp V M T lw d o F) : ∃ cq, dwK M o = (0, cq) ∧ obL.contains cq = true := by
  cases d with
  | zero => exact False.elim h
  | succ d =>
    rcases h.2 with ⟨k, a, c, hv, hao, -⟩ | ⟨n, l, e, cap, g, Gs, -, hk25, -⟩
    · have hk5 := acV_k hv
      refine ⟨20 + k, hao.1, ?_⟩
      rcases (by omega : k = 0 ∨ k = 1 ∨ k = 2 ∨ k = 3 ∨ k = 4) with rfl | rfl | rfl | rfl | rfl <;> rfl
    · exact ⟨25, hk25, rfl⟩
section WK
variable {b : Nat} {w : Nat → Nat} {M : dwSt} {A : dvA} {T : dvT} {lw : (Nat → Int32) → Int32} {N d L : Nat}
def cSz (b : Nat) (w : Nat → Nat) (A : dvA) (T : dvT) (lw : (Nat → Int32) → Int32) (N d L k p : Nat) (M : dwSt) (x : rsW) (z : dwR9 Nat) : Prop := match x with
  | .inl u => ∃ M2 o, z = some (.inl o, M2) ∧ fr (sLc N) nz (3 * (u.2 - p) - 1) (60 * (u.2 - p) - 150) M M2 ∧ wkC b w M2 A T N d L k u.2 ∧ (p + 4 ≤ u.2 ∧ u.2 ≤ L) ∧ cStp (fun a => dwN M ≤ a) M2 T lw u.1.2.2 o u.1.1
  | .inr e => bdC N (3 * (L - p) + 10) (60 * (L - p) + 60) M e z
def wroom (M : dwSt) (L p : Nat) : Prop := room M (3 * (L - p) + 10) (60 * (L - p) + 60)
def hWec (b : Nat) (w : Nat → Nat) (A : dvA) (T : dvT) (lw : (Nat → Int32) → Int32) (N d L k' : Nat) (recS : Nat → rsW) (rec : dwSt → Nat → dwR9 Nat) : Prop := ∀ p M, p ≤ L → wkC b w M A T N d L k' p → wroom M L p → cSz b w A T lw N d L k' p M (recS p) (rec M N)
def sAg (N n0 o3 : Nat) : Nat → Nat → Prop := fun a k => sLc N a k ∨ (n0 ≤ a ∧ a ≠ o3)
def zAg (n0 o3 : Nat) : Nat → Nat → Prop := fun a _ => n0 ≤ a ∧ a ≠ o3
theorem c_agL {recS : Nat → rsW} {rec : dwSt → Nat → dwR9 Nat} {k' l o3 n0 : Nat} {K : dwSt → dwR9 Nat} (hr : hWec b w A T lw N d L k' recS rec) (hL : L ≤ 150) (hN0 : N < n0) (hl : n0 ≤ l) (ho : n0 ≤ o3) (hlo : l ≠ o3) : ∀ m f Gs ln dp p M e cap g, L - p < m → m ≤ f → 4 * Gs.length ≤ p → wkC b w M A T N d L k' p → dwK M o3 = (0, 25) → o3 < dwN M → dwR M o3 123 = some l → (n0 ≤ e ∧ e ≠ o3 ∧ e ≠ l) → rwL M l Gs.length e cap g → (∀ i G, Gs[i]? = some G → cStp (fun a => n0 ≤ a ∧ a ≠ l ∧ a ≠ e ∧ a ≠ o3) M T lw dp (g i) G) → wroom M L p → match agF (xbN A) L recS m Gs ln dp p with
    | .inl u => ∃ M2 e2 cap2 g2 q, u.2 = q + 1 ∧ q < L ∧ L_X22_again_26 rec (KX Nat) N o3 K f M = K M2 ∧ fr (sAg N n0 o3) (zAg n0 o3) (3 * (q - p)) (60 * (q - p)) M M2 ∧ wkC b w M2 A T N d L k' q ∧ p ≤ q ∧ (n0 ≤ e2 ∧ e2 ≠ o3 ∧ e2 ≠ l) ∧ rwL M2 l u.1.1.length e2 cap2 g2 ∧ (∀ i G, u.1.1[i]? = some G → cStp (fun a => n0 ≤ a ∧ a ≠ l ∧ a ≠ e2 ∧ a ≠ o3) M2 T lw u.1.2.2 (g2 i) G)
    | .inr e => bdC N (3 * (L - p) + 10) (60 * (L - p) + 60) M e (L_X22_again_26 rec (KX Nat) N o3 K f M) := by
  intro m
  induction m with
  | zero => intro f Gs ln dp p M e cap g h1; omega
  | succ m ih =>
    intro f Gs ln dp p M e cap g h1 h2 h4 hk hk3 ho3 h123 he hLl hG hR
    obtain ⟨f, rfl⟩ : ∃ f', f = f' + 1 := ⟨f - 1, by omega⟩
    have hkN := hk.1.2.1.2.2.2.1
    have hNN := hk.1.2.1.1
    have hpL := hk.1.2.2.2.1
    obtain ⟨g1, g2⟩ := blS_le (X := xbN A) (L := L) _ p rfl
    have g2 := g2 hpL
    obtain ⟨M2, e2, f2, l2⟩ := wk_sign hk
    have hk2 := l2.1.2.1.2.2.2.1
    have s93 : (sgC (xbN A) L (blS (xbN A) L p) = 93) ↔ (blS (xbN A) L p < L ∧ xbN A (blS (xbN A) L p) = 93) := sgC_eq (X := xbN A) (L := L) (q := blS (xbN A) L p) (c := 93) (l2.1.lt _) (by omega) (by omega)
    have fr2 : frV (fun a => n0 ≤ a ∧ a ≠ l ∧ a ≠ e ∧ a ≠ o3) (sPo N) nz := fun a k ha => ⟨fun z => by have := z.1; have := ha.1; omega, fun z => z⟩
    have wide : ∀ {n u : Nat} {M1 M2 : dwSt}, fr (sLc N) nz n u M1 M2 → fr (sAg N n0 o3) (zAg n0 o3) n u M1 M2 := fun f => f.mono (fun a k z => Or.inl z) (fun _ _ z => False.elim z) (Nat.le_refl _) (Nat.le_refl _)
    have f2l := f2.mono (S' := sLc N) (Z' := nz) sPo_c (fun _ _ z => z) (Nat.le_refl _) (Nat.le_refl _)
    have L2 : rwL M2 l Gs.length e cap g := rwL_fr hLl f2 (fun z => by have := z.1; omega) (fun z => z) (fun k z => z)
    have G2 : ∀ i G, Gs[i]? = some G → cStp (fun a => n0 ≤ a ∧ a ≠ l ∧ a ≠ e ∧ a ≠ o3) M2 T lw dp (g i) G := fun i G hi => cStp_fr f2 fr2 _ _ _ (hG i G hi)
    have n2 := f2.n
    rw [agF, L_X22_again_26, xrk_u hkN, e2, xmb_v]
    by_cases c : blS (xbN A) L p < L ∧ xbN A (blS (xbN A) L p) = 93
    · rw [if_pos c, if_pos (s93.mpr c)]
      exact ⟨M2, e, cap, g, blS (xbN A) L p, rfl, c.1, rfl, (wide f2l).mono (fun _ _ z => z) (fun _ _ z => z) (by omega) (by omega), l2, g1, he, L2, G2⟩
    · rw [if_neg c, if_neg (fun z => c (s93.mp z))]
      have hR2 : wroom M2 L (blS (xbN A) L p) := by
        unfold wroom at hR ⊢
        exact (hR.le (n' := 0 + (3 * (L - blS (xbN A) L p) + 10)) (u' := 0 + (60 * (L - blS (xbN A) L p) + 60)) (by omega) (by omega)).fr f2
      have r := hr _ M2 g2 l2 hR2
      have o3k : dwK M2 o3 = (0, 25) := (f2.k ho3).trans hk3
      have o3r : dwR M2 o3 123 = some l := (f2.r ho3 (fun z => z)).trans h123
      rw [xgR_v (t := l) (by rw [o3k]; rfl) o3r, xrk_u hk2]
      generalize blS (xbN A) L p = q at *
      cases hx : recS q with
      | inr e' =>
        rw [hx] at r
        exact (bdC.pre (bdC.th r) f2l sLc_N nz_N).le (by omega) (by omega)
      | inl u =>
        rw [hx] at r
        obtain ⟨M3, o, e3, f3, l3, ⟨p3, p3'⟩, t3⟩ := r
        have n3 := f3.n
        have L3 : rwL M3 l Gs.length e cap g := rwL_fr L2 f3 (fun z => by have := z.1; omega) (fun z => z) (fun k z => z)
        have fr3 : frV (fun a => n0 ≤ a ∧ a ≠ l ∧ a ≠ e ∧ a ≠ o3) (sLc N) nz := fun a k ha => ⟨fun z => by have := z.1; have := ha.1; omega, fun z => z⟩
        obtain ⟨cq, kq, hcq⟩ := cStp_kind t3
        have hoN : o < dwN M3 := by
          cases hd : u.1.2.2 with
          | zero => rw [hd] at t3; exact False.elim t3
          | succ d' => rw [hd] at t3; exact t3.1.2
        have hR3 : room M3 (1 + (3 * (L - u.2) + 10)) (150 + (60 * (L - u.2) + 60)) := by
          unfold wroom at hR2
          exact (hR2.le (n' := (3 * (u.2 - q) - 1) + (1 + (3 * (L - u.2) + 10))) (u' := (60 * (u.2 - q) - 150) + (150 + (60 * (L - u.2) + 60))) (by omega) (by omega)).fr f3
        obtain ⟨M4, e4, cap4, ea4, f4, L4, he4⟩ := c_add L3 kq hcq hoN (by omega) (hR3.le (by omega) (by omega))
        have n4 := f4.n
        have lN : l < dwN M2 := L2.2.2.2.2.2.2.1.1
        have eN : e < dwN M2 := L2.2.2.2.2.2.2.1.2
        have l4 : wkC b w M4 A T N d L k' u.2 := wk_to l3 f4 (fun a k _ z => by have := z.1; exact ⟨by omega, fun e => by omega⟩) (fun a k _ z => by rcases z with z | z; have := z.1; omega; omega) (l3.1.fr f4 (fun a k z => by have := z.1; have := l3.1.2.1.2.1; exact ⟨by omega, fun e => by omega⟩) (fun a k z => by have hb := l3.1.2.1.2.1; rcases z with z | z; have := z.1; exact ⟨by omega, by omega⟩; exact ⟨by omega, by omega⟩))
        have hR4 : wroom M4 L u.2 := hR3.fr f4
        have hle4 : n0 ≤ e4 ∧ e4 ≠ o3 ∧ e4 ≠ l := by rcases he4 with z | z <;> rw [z] <;> exact ⟨by omega, by omega, by omega⟩
        have k34 : dwK M4 o3 = (0, 25) := (f4.k (by omega)).trans ((f3.k (by omega)).trans o3k)
        have r34 : dwR M4 o3 123 = some l := (f4.r (by omega) (fun z => by rcases z with z | z; have := z.1; omega; omega)).trans ((f3.r (by omega) (fun z => z)).trans o3r)
        have frX : frV (fun a => n0 ≤ a ∧ a ≠ l ∧ a ≠ e ∧ a ≠ e4 ∧ a ≠ o3) (fun a k => a = l ∧ (k = 124 ∨ k = 126)) (fun a k => (a = l ∧ k = 125) ∨ a = e) := fun a k ha => ⟨fun z => ha.2.1 z.1, fun z => z.elim (fun z => ha.2.1 z.1) (fun z => ha.2.2.1 z)⟩
        have up : ∀ dd o' G', cStp (fun a => n0 ≤ a ∧ a ≠ l ∧ a ≠ e ∧ a ≠ e4 ∧ a ≠ o3) M3 T lw dd o' G' → cStp (fun a => n0 ≤ a ∧ a ≠ l ∧ a ≠ e4 ∧ a ≠ o3) M4 T lw dd o' G' := fun dd o' G' h => cStp_V (fun a _ ha => ⟨ha.1, ha.2.1, ha.2.2.2.1, ha.2.2.2.2⟩) _ _ _ (cStp_fr f4 frX _ _ _ h)
        have tn : cStp (fun a => n0 ≤ a ∧ a ≠ l ∧ a ≠ e4 ∧ a ≠ o3) M4 T lw u.1.2.2 o u.1.1 := up _ _ _ (cStp_V (fun a ha1 ha2 => ⟨by omega, by omega, by omega, by rcases he4 with z | z <;> omega, by omega⟩) _ _ _ t3)
        have G4 : ∀ i G, (Gs ++ [u.1.1])[i]? = some G → cStp (fun a => n0 ≤ a ∧ a ≠ l ∧ a ≠ e4 ∧ a ≠ o3) M4 T lw (max dp u.1.2.2) ((fun p => if p = Gs.length then o else g p) i) G := fun i G hi => by
          by_cases hlt : i < Gs.length
          · rw [List.getElem?_append_left hlt] at hi
            dsimp only
            rw [if_neg (by omega)]
            exact cStp_le _ _ _ _ (Nat.le_max_left _ _) (up _ _ _ (cStp_V (fun a ha1 ha2 => ⟨ha2.1, ha2.2.1, ha2.2.2.1, by rcases he4 with z | z; rw [z]; exact ha2.2.2.1; omega, ha2.2.2.2⟩) _ _ _ (cStp_fr f3 fr3 _ _ _ (G2 i G hi))))
          · have hi2 : i < (Gs ++ [u.1.1]).length := (List.getElem?_eq_some_iff.mp hi).1
            rw [List.length_append] at hi2
            have hi3 : i < Gs.length + 1 := hi2
            have ei : i = Gs.length := by omega
            subst ei
            rw [List.getElem?_append_right (Nat.le_refl _), Nat.sub_self] at hi
            cases hi
            dsimp only
            rw [if_pos rfl]
            exact cStp_le _ _ _ _ (Nat.le_max_right _ _) tn
        have F4 : fr (sAg N n0 o3) (zAg n0 o3) (3 * (u.2 - q)) (60 * (u.2 - q)) M M4 := (((wide f2l).trans (wide f3)).trans (f4.mono (S' := sAg N n0 o3) (Z' := zAg n0 o3) (fun a k z => Or.inr ⟨by omega, by omega⟩) (fun a k z => by unfold zAg; rcases z with z | z; have := z.1; exact ⟨by omega, by omega⟩; exact ⟨by omega, by omega⟩) (Nat.le_refl _) (Nat.le_refl _))).mono (fun _ _ z => z) (fun _ _ z => z) (by omega) (by omega)
        have L4' : rwL M4 l (Gs ++ [u.1.1]).length e4 cap4 (fun p => if p = Gs.length then o else g p) := by rw [List.length_append]; exact L4
        have r5 := ih f (Gs ++ [u.1.1]) (ln + u.1.2.1) (max dp u.1.2.2) u.2 M4 e4 cap4 _ (by omega) (by omega) (by rw [List.length_append]; show 4 * (Gs.length + 1) ≤ u.2; omega) l4 k34 (by omega) r34 hle4 L4' G4 hR4
        rw [e3, xth_v, xrk_u L3.1, ea4, xmb_v]
        dsimp only
        generalize agF (xbN A) L recS m (Gs ++ [u.1.1]) (ln + u.1.2.1) (max dp u.1.2.2) u.2 = R at r5 ⊢
        cases R with
        | inr e' => exact (bdC.pre r5 F4 (fun a k z => by rcases z with z | z; have := z.1; omega; have := z.1; omega) (fun a k z => by have := z.1; omega)).le (by omega) (by omega)
        | inl v =>
          obtain ⟨M5, e5, cap5, g5, q5, a1, a2, a3, a4, a5, a6, a7, a8, a9⟩ := r5
          exact ⟨M5, e5, cap5, g5, q5, a1, a2, a3, (F4.trans a4).mono (fun _ _ z => z) (fun _ _ z => z) (by omega) (by omega), a5, by omega, a7, a8, a9⟩
end WK
