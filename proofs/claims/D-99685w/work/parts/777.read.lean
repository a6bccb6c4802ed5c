/-! A LAND: the twin's call; both -/
theorem laT_ok {X : Nat → Nat} {L : Nat} {T : dvT} {c q p : Nat} (hO : tOK T) (hq : q ≤ L) (h : laC X L T c q = .inl p) : tOK (laT X L T c q) := by
  obtain ⟨hW, hK1, hF⟩ := laC_ok h
  have hw := wdS_le (X := X) (L := L) _ q rfl hq
  have hKl : laK X L q = 0 ∨ laK X L q = 1 ∨ laK X L q = 2 ∨ laK X L q = 3 ∨ laK X L q = 4 := by
    rcases swLand_cases ((wdS X L q).take 10) with ⟨-, z⟩ | ⟨-, z⟩ | ⟨-, z⟩ | ⟨-, z⟩ | ⟨-, z⟩ | ⟨z, -⟩
    · exact Or.inl z
    · exact Or.inr (Or.inl z)
    · exact Or.inr (Or.inr (Or.inl z))
    · exact Or.inr (Or.inr (Or.inr (Or.inl z)))
    · exact Or.inr (Or.inr (Or.inr (Or.inr z)))
    · exact absurd z hK1
  rcases hKl with hk | hk | hk | hk | hk
  · rw [hk] at hF
    have hlt : tP T < 7 := Nat.lt_of_le_of_ne hO.1 fun e => hF (Or.inr (Or.inl ⟨rfl, e⟩))
    have hA : laA X L T c q = nbS X L 0 3 (q + (wdS X L q).length) := by unfold laA hiA; rw [hW, hk, if_pos rfl]; rfl
    have hB : laB X L T c q = nuR X L 0 9 (poR (nbS X L 0 3 (q + (wdS X L q).length))) := by unfold laB loB hiB; rw [hA, hk, if_pos rfl, if_neg (by decide)]
    unfold laC at h
    rw [hk, if_pos (Or.inl rfl), hB] at h
    obtain ⟨y, e1, e2⟩ := poR_inl h
    obtain ⟨p1, e3, e4⟩ := nuR_inl e1
    obtain ⟨z, e5, e6⟩ := poR_inl e3
    obtain ⟨a1, a2, a3, a4⟩ := nbS_le hw e5
    obtain ⟨b1, b2, b3, b4⟩ := nbS_le (by omega) e4
    unfold laT
    rw [hk, if_pos rfl, hA, hB, e1, e5]
    exact tOK_addP hO hlt (inV_le (lo := 0) (hi := 3) (by omega) (by omega) (by omega) a4).2 (inV_le (lo := 0) (hi := 9) (by omega) (by omega) (by omega) b4).2
  · rw [hk] at hF
    have hlt : tJ T < 6 := Nat.lt_of_le_of_ne hO.2.1 fun e => hF (Or.inr (Or.inr (Or.inl ⟨rfl, e⟩)))
    have hA : laA X L T c q = nbS X L 0 9 (q + (wdS X L q).length) := by unfold laA hiA; rw [hW, hk, if_neg (by decide), if_pos rfl]; rfl
    have hB : laB X L T c q = nuR X L 1 20 (poR (nbS X L 0 9 (q + (wdS X L q).length))) := by unfold laB loB hiB; rw [hA, hk, if_pos rfl, if_neg (by decide), if_pos rfl]
    unfold laC at h
    rw [hk, if_pos (Or.inr rfl), hB] at h
    obtain ⟨y, e1, e2⟩ := poR_inl h
    obtain ⟨p1, e3, e4⟩ := nuR_inl e1
    obtain ⟨z, e5, e6⟩ := poR_inl e3
    obtain ⟨a1, a2, a3, a4⟩ := nbS_le hw e5
    obtain ⟨b1, b2, b3, b4⟩ := nbS_le (by omega) e4
    unfold laT
    rw [hk, if_neg (by decide), if_pos rfl, hA, hB, e1, e5]
    exact tOK_addJ hO hlt (inV_le (lo := 0) (hi := 9) (by omega) (by omega) (by omega) a4).2
  · rw [hk] at hF
    have hlt : tS T < 12 := Nat.lt_of_le_of_ne hO.2.2.1 fun e => hF (Or.inr (Or.inr (Or.inr ⟨rfl, e⟩)))
    have hA : laA X L T c q = nbS X L 0 (Int32.ofNat (tP T) - 1) (q + (wdS X L q).length) := by unfold laA hiA; rw [hW, hk, if_neg (by decide), if_neg (by decide), if_pos rfl]; rfl
    have hB : laB X L T c q = nuR X L 0 (Int32.ofNat (tP T) - 1) (poR (nbS X L 0 (Int32.ofNat (tP T) - 1) (q + (wdS X L q).length))) := by unfold laB loB hiB; rw [hA, hk, if_neg (by decide), if_neg (by decide), if_neg (by decide)]
    unfold laC laQ at h
    rw [hk, if_neg (by decide), if_pos rfl, hA, hB] at h
    have hP7 := hO.1
    cases e5 : nbS X L 0 (Int32.ofNat (tP T) - 1) (q + (wdS X L q).length) with
    | inr e => rw [e5] at h; cases h
    | inl z =>
      rw [e5] at h hA hB
      obtain ⟨a1, a2, a3, a4⟩ := nbS_le hw e5
      have hB' : laB X L T c q = nbS X L 0 (Int32.ofNat (tP T) - 1) z.2 := hB
      cases e4 : nbS X L 0 (Int32.ofNat (tP T) - 1) z.2 with
      | inr e =>
        have h' : (match nbS X L 0 (Int32.ofNat (tP T) - 1) z.2 with
          | .inl y => @ite rsP (noSt T z.1 y.1) (Classical.propDecidable _) (.inr (2, blS X L z.2)) (.inl y.2)
          | .inr e => .inr e) = .inl p := h
        rw [e4] at h'; cases h'
      | inl y =>
        obtain ⟨b1, b2, b3, b4⟩ := nbS_le a3 e4
        have h' : (match nbS X L 0 (Int32.ofNat (tP T) - 1) z.2 with
          | .inl y => @ite rsP (noSt T z.1 y.1) (Classical.propDecidable _) (.inr (2, blS X L z.2)) (.inl y.2)
          | .inr e => .inr e) = .inl p := h
        rw [e4] at h'
        have h'' : @ite rsP (noSt T z.1 y.1) (Classical.propDecidable _) (.inr (2, blS X L z.2)) (.inl y.2) = .inl p := h'
        have hno : ¬ noSt T z.1 y.1 := fun hn => by rw [if_pos hn] at h''; cases h''
        rw [e4] at hB'
        unfold laT
        rw [hk, if_neg (by decide), if_neg (by decide), if_pos rfl, hA, hB']
        have hz9 : z.1 < tP T := inV_lt (by omega) (by omega) a4
        have hy9 : y.1 < tP T := inV_lt (by omega) (by omega) b4
        exact tOK_addS hO hlt hz9 hy9 (fun e => hno (Or.inl e))
  · have hA : laA X L T c q = nbS X L 0 (Int32.ofNat 200) (q + (wdS X L q).length) := by unfold laA hiA; rw [hW, hk, if_neg (by decide), if_neg (by decide), if_neg (by decide), if_pos rfl]; rfl
    unfold laC at h
    rw [hk, if_neg (by decide), if_neg (by decide), hA] at h
    obtain ⟨z, e5, e6⟩ := poR_inl h
    obtain ⟨a1, a2, a3, a4⟩ := nbS_le hw e5
    unfold laT
    rw [hk, if_neg (by decide), if_neg (by decide), if_neg (by decide), if_pos rfl, hA, e5]
    exact tOK_setG hO (inV_le (lo := 0) (hi := 200) (by omega) (by omega) (by omega) a4).2
  · have hA : laA X L T c q = nbS X L 0 (Int32.ofNat 9) (q + (wdS X L q).length) := by unfold laA hiA; rw [hW, hk, if_neg (by decide), if_neg (by decide), if_neg (by decide), if_neg (by decide)]; rfl
    unfold laC at h
    rw [hk, if_neg (by decide), if_neg (by decide), hA] at h
    obtain ⟨z, e5, e6⟩ := poR_inl h
    obtain ⟨a1, a2, a3, a4⟩ := nbS_le hw e5
    unfold laT
    rw [hk, if_neg (by decide), if_neg (by decide), if_neg (by decide), if_neg (by decide), hA, e5]
    exact tOK_setD hO (inV_le (lo := 0) (hi := 9) (by omega) (by omega) (by omega) a4).2
/-- the twin has read a land, or what is wrong -/
def tlZ (b : Nat) (M : dwSt) (A : dvA) (L : Nat) (R : dvT ⊕ (Nat × Nat)) : Prop := match R with
  | .inl T => (∃ p, tSt b M A L (.inl p)) ∧ tRT b M T ∧ tOK T
  | .inr e => tSt b M A L (.inr e)
section LAND
variable {b : Nat} {w : Nat → Nat} {M : dwSt} {A : dvA} {ρ : Type} {L : Nat} {T : dvT}
theorem t_laL {E : Option ρ → Prop} {K : dwSt → Option ρ} : ∀ n p f (T : dvT) (c : Nat) (M1 : dwSt), L - p ≤ n → n < f → tSt b M1 A L (.inl p) → blS (xbN A) L p = p → tRT b M1 T → tOK T → dwI M1 (b + 54) 51 = Int32.ofNat c → c ≤ 60 → (∀ M2, fr (sCl b) nz 0 0 M1 M2 → tlZ b M2 A L (laF (xbN A) L n T c p) → E (K M2)) → E (L_X10_land_42 (b + 54) K f M1) := by
  intro n
  have fin : ∀ p f (T : dvT) (M1 : dwSt), ¬ p < L → 0 < f → tSt b M1 A L (.inl p) → tRT b M1 T → tOK T → (∀ M2, fr (sCl b) nz 0 0 M1 M2 → tlZ b M2 A L (.inl T) → E (K M2)) → E (L_X10_land_42 (b + 54) K f M1) := by
    intro p f T M1 hp hf h hT hO hE
    obtain ⟨f', rfl⟩ : ∃ f', f = f' + 1 := ⟨f - 1, by omega⟩
    obtain ⟨g48, g49, gp⟩ := h.ok
    have sh1 := h.1.1
    have h46 := h.2.1
    have hle := eq_true (show Int32.ofNat L ≤ Int32.ofNat p by rw [show p = L by omega]; exact Int32.le_refl _)
    simp -implicitDefEqProofs only [L_X10_land_42, ↓gp0_2, ↓gp0_3, ↓gp0_4, ↓gp0_5, ↓gp0_6, ↓gp0_7, ↓gp0_8, ↓gp0_9, ↓gp0_10, ↓gp0_18, ↓gp0_19, ↓gp0_20, ↓gp0_22, ↓gp23_43, ↓gp23_32, ↓gp23_33, ↓gp23_34, ↓gp23_35, ↓gp23_36, ↓gp29_43, ↓gp29_32, ↓gp29_33, ↓gp29_34, ↓gp29_35, ↓gp29_36, ↓gp54_53, ↓gp54_54, ↓gp54_55, ↓gp54_56, ↓gp54_57, ↓gp54_58, ↓gp54_59, ↓gp54_60, ↓gp54_61, ↓gp54_62, ↓gp54_65, ↓gp54_66, ↓gp54_67, ↓gp54_68, ↓gp54_69, ↓gp54_70, ↓gp54_71, ↓gp54_73, ↓gp54_74, ↓gp54_75, ↓gp54_76, ↓gp54_84, ↓gp54_85, ↓gp54_87, ↓gp54_88, ↓xr59, kr59, ↓xr67, kr67, ↓xr75, kr75, ↓xr82, kr82, ↓xr89, kr89, ↓xr102, kr102, ↓xr115, kr115, ↓xr276, kr276, ↓xr437, kr437, ↓xr444, kr444, ↓xr453, kr453, ↓xr536, kr536, ↓xr553, kr553, hs0, hw0, hs1, hw1, hs2, hw2, hs3, hw3, hs4, hw4, hs5, hw5, hs6, hw6, hs7, hw7, hs8, hw8, hs9, hw9, hs10, hw10, hs11, hw11, hs12, hw12, hs13, hw13, hs14, hw14, hs15, hw15, hs16, hw16, hs17, hw17, hs18, hw18, hs19, hw19, hs20, hw20, hs21, hw21, hs22, hw22, hs23, hw23, hs25, hw25, hs26, hw26, hs27, hw27, hs28, hw28, hs9b, hw9b, hs10b, hw10b, kd0, kd20, kd21, kd22, kd23, kd24, kd25, kd26, kd27, kd28, kd29, kd30, kd31, kd32, kd33, kd34, kd35, kd36, kd37, kd38, kd39, kd40, kd41, kd42, kd54, kd55, kd56, kd57, kd58, kd59, kd67, kd75, kd82, kd89, kd102, kd115, kd276, kd437, kd444, kd451, kd452, kd453, kd534, kd535, kd536, kd553, kd557, kd558, kd559, kd560, kd561, ↓xgI_u, ↓xpI_u, ↓xaI_u, ↓xsI_u, ↓xrk_u, ↓xrk0_u, ↓xob_v, ↓xmb_v, ↓xth_v, ↓xth_x, ↓jn_u, ↓xlen_u, ↓xaL_u, ↓xsL_u, ↓xbl_0, ↓xbl_1, eq_self, inb_n, inb_d, Sh_PI, Sh_PL, dk_PI, dk_PL, dr_PI, dr_PL, ↓reduceIte, Int32.reduceLE, Int32.reduceLT, Int32.reduceToNatClampNeg, Nat.reduceLT, Nat.reduceLeDiff, Nat.reduceEqDiff, Nat.reduceAdd, Nat.reduceMul, sh1, g49, g48, h46, hle, if_true]
    exact hE M1 (fr.refl M1) ⟨⟨p, h⟩, hT, hO⟩
  induction n with
  | zero =>
    intro p f T c M1 h1 h2 h hbl hT hO h51 hc hE
    exact fin p f T M1 (by omega) (by omega) h hT hO hE
  | succ n ih =>
    intro p f T c M1 h1 h2 h hbl hT hO h51 hc hE
    by_cases hp : p < L
    · obtain ⟨f', rfl⟩ : ∃ f', f = f' + 1 := ⟨f - 1, by omega⟩
      obtain ⟨g48, g49, gp⟩ := h.ok
      have sh1 := h.1.1
      have hN := shN sh1
      have h46 := h.2.1
      have hL600 : L ≤ 600 := Nat.le_trans h.2.2.1 h.1.2.1
      have hle := i_geF hp (show L < 2147483648 by omega)
      obtain ⟨M2, e2, f2, k2, g2⟩ := t_clause h hbl hT hO h51 hc
      have sh2 := k2.1.1
      obtain ⟨M3, e3, f3, k3⟩ := tS_bl k2
      have sh3 := k3.1.1
      have F3 : fr (sCl b) nz 0 0 M1 M3 := f2.t0 (f3.mono (fun a k z => Or.inl ⟨z.1, Or.inl z.2⟩) (fun _ _ z => z) (Nat.le_refl _) (Nat.le_refl _))
      rw [laF, if_pos hp] at hE
      simp -implicitDefEqProofs only [L_X10_land_42, ↓gp0_2, ↓gp0_3, ↓gp0_4, ↓gp0_5, ↓gp0_6, ↓gp0_7, ↓gp0_8, ↓gp0_9, ↓gp0_10, ↓gp0_18, ↓gp0_19, ↓gp0_20, ↓gp0_22, ↓gp23_43, ↓gp23_32, ↓gp23_33, ↓gp23_34, ↓gp23_35, ↓gp23_36, ↓gp29_43, ↓gp29_32, ↓gp29_33, ↓gp29_34, ↓gp29_35, ↓gp29_36, ↓gp54_53, ↓gp54_54, ↓gp54_55, ↓gp54_56, ↓gp54_57, ↓gp54_58, ↓gp54_59, ↓gp54_60, ↓gp54_61, ↓gp54_62, ↓gp54_65, ↓gp54_66, ↓gp54_67, ↓gp54_68, ↓gp54_69, ↓gp54_70, ↓gp54_71, ↓gp54_73, ↓gp54_74, ↓gp54_75, ↓gp54_76, ↓gp54_84, ↓gp54_85, ↓gp54_87, ↓gp54_88, ↓xr59, kr59, ↓xr67, kr67, ↓xr75, kr75, ↓xr82, kr82, ↓xr89, kr89, ↓xr102, kr102, ↓xr115, kr115, ↓xr276, kr276, ↓xr437, kr437, ↓xr444, kr444, ↓xr453, kr453, ↓xr536, kr536, ↓xr553, kr553, hs0, hw0, hs1, hw1, hs2, hw2, hs3, hw3, hs4, hw4, hs5, hw5, hs6, hw6, hs7, hw7, hs8, hw8, hs9, hw9, hs10, hw10, hs11, hw11, hs12, hw12, hs13, hw13, hs14, hw14, hs15, hw15, hs16, hw16, hs17, hw17, hs18, hw18, hs19, hw19, hs20, hw20, hs21, hw21, hs22, hw22, hs23, hw23, hs25, hw25, hs26, hw26, hs27, hw27, hs28, hw28, hs9b, hw9b, hs10b, hw10b, kd0, kd20, kd21, kd22, kd23, kd24, kd25, kd26, kd27, kd28, kd29, kd30, kd31, kd32, kd33, kd34, kd35, kd36, kd37, kd38, kd39, kd40, kd41, kd42, kd54, kd55, kd56, kd57, kd58, kd59, kd67, kd75, kd82, kd89, kd102, kd115, kd276, kd437, kd444, kd451, kd452, kd453, kd534, kd535, kd536, kd553, kd557, kd558, kd559, kd560, kd561, ↓xgI_u, ↓xpI_u, ↓xaI_u, ↓xsI_u, ↓xrk_u, ↓xrk0_u, ↓xob_v, ↓xmb_v, ↓xth_v, ↓xth_x, ↓jn_u, ↓xlen_u, ↓xaL_u, ↓xsL_u, ↓xbl_0, ↓xbl_1, eq_self, inb_n, inb_d, Sh_PI, Sh_PL, dk_PI, dk_PL, dr_PI, dr_PL, ↓reduceIte, Int32.reduceLE, Int32.reduceLT, Int32.reduceToNatClampNeg, Nat.reduceLT, Nat.reduceLeDiff, Nat.reduceEqDiff, Nat.reduceAdd, Nat.reduceMul, sh1, g49, if_true, g48, h46, hle, if_false, e2, sh2, e3]
      cases hC : laC (xbN A) L T c p with
      | inr e =>
        have hEE : laE (xbN A) L T c p = .inr e := by unfold laE; rw [hC]; rfl
        rw [hEE] at k3 hE
        obtain ⟨f1, rfl⟩ : ∃ f1, f' = f1 + 1 := ⟨f' - 1, by omega⟩
        have z := k3.bad.2.2
        simp -implicitDefEqProofs only [L_X10_land_42, ↓gp0_2, ↓gp0_3, ↓gp0_4, ↓gp0_5, ↓gp0_6, ↓gp0_7, ↓gp0_8, ↓gp0_9, ↓gp0_10, ↓gp0_18, ↓gp0_19, ↓gp0_20, ↓gp0_22, ↓gp23_43, ↓gp23_32, ↓gp23_33, ↓gp23_34, ↓gp23_35, ↓gp23_36, ↓gp29_43, ↓gp29_32, ↓gp29_33, ↓gp29_34, ↓gp29_35, ↓gp29_36, ↓gp54_53, ↓gp54_54, ↓gp54_55, ↓gp54_56, ↓gp54_57, ↓gp54_58, ↓gp54_59, ↓gp54_60, ↓gp54_61, ↓gp54_62, ↓gp54_65, ↓gp54_66, ↓gp54_67, ↓gp54_68, ↓gp54_69, ↓gp54_70, ↓gp54_71, ↓gp54_73, ↓gp54_74, ↓gp54_75, ↓gp54_76, ↓gp54_84, ↓gp54_85, ↓gp54_87, ↓gp54_88, ↓xr59, kr59, ↓xr67, kr67, ↓xr75, kr75, ↓xr82, kr82, ↓xr89, kr89, ↓xr102, kr102, ↓xr115, kr115, ↓xr276, kr276, ↓xr437, kr437, ↓xr444, kr444, ↓xr453, kr453, ↓xr536, kr536, ↓xr553, kr553, hs0, hw0, hs1, hw1, hs2, hw2, hs3, hw3, hs4, hw4, hs5, hw5, hs6, hw6, hs7, hw7, hs8, hw8, hs9, hw9, hs10, hw10, hs11, hw11, hs12, hw12, hs13, hw13, hs14, hw14, hs15, hw15, hs16, hw16, hs17, hw17, hs18, hw18, hs19, hw19, hs20, hw20, hs21, hw21, hs22, hw22, hs23, hw23, hs25, hw25, hs26, hw26, hs27, hw27, hs28, hw28, hs9b, hw9b, hs10b, hw10b, kd0, kd20, kd21, kd22, kd23, kd24, kd25, kd26, kd27, kd28, kd29, kd30, kd31, kd32, kd33, kd34, kd35, kd36, kd37, kd38, kd39, kd40, kd41, kd42, kd54, kd55, kd56, kd57, kd58, kd59, kd67, kd75, kd82, kd89, kd102, kd115, kd276, kd437, kd444, kd451, kd452, kd453, kd534, kd535, kd536, kd553, kd557, kd558, kd559, kd560, kd561, ↓xgI_u, ↓xpI_u, ↓xaI_u, ↓xsI_u, ↓xrk_u, ↓xrk0_u, ↓xob_v, ↓xmb_v, ↓xth_v, ↓xth_x, ↓jn_u, ↓xlen_u, ↓xaL_u, ↓xsL_u, ↓xbl_0, ↓xbl_1, eq_self, inb_n, inb_d, Sh_PI, Sh_PL, dk_PI, dk_PL, dr_PI, dr_PL, ↓reduceIte, Int32.reduceLE, Int32.reduceLT, Int32.reduceToNatClampNeg, Nat.reduceLT, Nat.reduceLeDiff, Nat.reduceEqDiff, Nat.reduceAdd, Nat.reduceMul, sh3, z, if_false]
        exact hE M3 F3 k3
      | inl p1 =>
        obtain ⟨hWW, hKK, hFF⟩ := laC_ok hC
        have hc60 : c < 60 := Nat.lt_of_le_of_ne hc fun e => hFF (Or.inl e)
        obtain ⟨q1, q2⟩ := laC_le (by omega) hC
        have hEE : laE (xbN A) L T c p = sgS (xbN A) L 59 p1 := by unfold laE; rw [hC]; rfl
        rw [hEE] at k3 hE g2
        have hO2 := laT_ok hO (by omega) hC
        cases hS : sgS (xbN A) L 59 p1 with
        | inr e =>
          rw [hS] at k3 hE
          obtain ⟨f1, rfl⟩ : ∃ f1, f' = f1 + 1 := ⟨f' - 1, by omega⟩
          have z := (tSt.bad k3).2.2
          simp -implicitDefEqProofs only [L_X10_land_42, ↓gp0_2, ↓gp0_3, ↓gp0_4, ↓gp0_5, ↓gp0_6, ↓gp0_7, ↓gp0_8, ↓gp0_9, ↓gp0_10, ↓gp0_18, ↓gp0_19, ↓gp0_20, ↓gp0_22, ↓gp23_43, ↓gp23_32, ↓gp23_33, ↓gp23_34, ↓gp23_35, ↓gp23_36, ↓gp29_43, ↓gp29_32, ↓gp29_33, ↓gp29_34, ↓gp29_35, ↓gp29_36, ↓gp54_53, ↓gp54_54, ↓gp54_55, ↓gp54_56, ↓gp54_57, ↓gp54_58, ↓gp54_59, ↓gp54_60, ↓gp54_61, ↓gp54_62, ↓gp54_65, ↓gp54_66, ↓gp54_67, ↓gp54_68, ↓gp54_69, ↓gp54_70, ↓gp54_71, ↓gp54_73, ↓gp54_74, ↓gp54_75, ↓gp54_76, ↓gp54_84, ↓gp54_85, ↓gp54_87, ↓gp54_88, ↓xr59, kr59, ↓xr67, kr67, ↓xr75, kr75, ↓xr82, kr82, ↓xr89, kr89, ↓xr102, kr102, ↓xr115, kr115, ↓xr276, kr276, ↓xr437, kr437, ↓xr444, kr444, ↓xr453, kr453, ↓xr536, kr536, ↓xr553, kr553, hs0, hw0, hs1, hw1, hs2, hw2, hs3, hw3, hs4, hw4, hs5, hw5, hs6, hw6, hs7, hw7, hs8, hw8, hs9, hw9, hs10, hw10, hs11, hw11, hs12, hw12, hs13, hw13, hs14, hw14, hs15, hw15, hs16, hw16, hs17, hw17, hs18, hw18, hs19, hw19, hs20, hw20, hs21, hw21, hs22, hw22, hs23, hw23, hs25, hw25, hs26, hw26, hs27, hw27, hs28, hw28, hs9b, hw9b, hs10b, hw10b, kd0, kd20, kd21, kd22, kd23, kd24, kd25, kd26, kd27, kd28, kd29, kd30, kd31, kd32, kd33, kd34, kd35, kd36, kd37, kd38, kd39, kd40, kd41, kd42, kd54, kd55, kd56, kd57, kd58, kd59, kd67, kd75, kd82, kd89, kd102, kd115, kd276, kd437, kd444, kd451, kd452, kd453, kd534, kd535, kd536, kd553, kd557, kd558, kd559, kd560, kd561, ↓xgI_u, ↓xpI_u, ↓xaI_u, ↓xsI_u, ↓xrk_u, ↓xrk0_u, ↓xob_v, ↓xmb_v, ↓xth_v, ↓xth_x, ↓jn_u, ↓xlen_u, ↓xaL_u, ↓xsL_u, ↓xbl_0, ↓xbl_1, eq_self, inb_n, inb_d, Sh_PI, Sh_PL, dk_PI, dk_PL, dr_PI, dr_PL, ↓reduceIte, Int32.reduceLE, Int32.reduceLT, Int32.reduceToNatClampNeg, Nat.reduceLT, Nat.reduceLeDiff, Nat.reduceEqDiff, Nat.reduceAdd, Nat.reduceMul, sh3, z, if_false]
          exact hE M3 F3 k3
        | inl p2 =>
          rw [hS] at k3 hE
          have k3' : tSt b M3 A L (.inl (blS (xbN A) L p2)) := k3
          obtain ⟨T2, c2⟩ := g2 p2 hS
          have hN2 := shN sh2
          have T3 := tRT_fr sh2 T2 hO2 f3 (fun i k hi => by unfold sPt; omega)
          have c3 : dwI M3 (b + 54) 51 = Int32.ofNat (c + 1) := (f3.i (by omega) (by unfold sPt; omega)).trans c2
          have hsg := (blS_le (X := xbN A) (L := L) _ p1 rfl).1
          have hp2 : p1 < p2 := by
            unfold sgS at hS
            split at hS
            · cases hS; omega
            · cases hS
          have hbl2 := (blS_le (X := xbN A) (L := L) _ p2 rfl).1
          exact ih (blS (xbN A) L p2) f' _ (c + 1) M3 (by omega) (by omega) k3' blS_bl T3 hO2 c3 (by omega) fun M4 f4 z4 => hE M4 (F3.t0 f4) z4
    · rw [laF, if_neg hp] at hE
      exact fin p f T M1 hp (by omega) h hT hO hE
theorem t_tellsN (hs : tSh b M) : ∃ M2, m_X10_tellsNothing M (b + 54) = some ((), M2) ∧ fr (fun a _ => a = b + 57) nz 0 0 M M2 ∧ tRT b M2 t00 := by
  have hN := hs.1
  unfold m_X10_tellsNothing
  rw [jn_u]
  refine lpx (E := fun x => ∃ M2, x = some ((), M2) ∧ fr (fun a _ => a = b + 57) nz 0 0 M M2 ∧ tRT b M2 t00) (fun f i (M' : dwSt) => L_X10_tellsNothing_2 (b + 54) _ f (Int32.ofNat i) M') 3 (fun i M' => fr (fun a _ => a = b + 57) nz 0 0 M M' ∧ ∀ k, k < i → dwI M' (b + 57) k = 0) ?_ ?_ 1000000 0 M (by omega) (by omega) ⟨fr.refl M, fun k hk => absurd hk (Nat.not_lt_zero k)⟩
  · intro f M1 ⟨f1, g1⟩
    have s1 := tSh_fr hs f1
    obtain ⟨hN1, k54, ⟨k57, k58, k534⟩, ⟨r55, r56, -⟩, -⟩ := id s1
    show ∃ M2, L_X10_tellsNothing_2 (b + 54) _ (f + 1) (Int32.ofNat 3) M1 = some ((), M2) ∧ _
    rw [L_X10_tellsNothing_2, if_pos (show (3 : Int32) ≤ Int32.ofNat 3 by decide), xgR_v (by rw [k54]; rfl) r55, xsI_u (by rw [k57]) (by rw [k57]; exact inb_n (i := 3) (by omega) (by omega)), show (3 : Int32).toNatClampNeg = 3 from rfl, xgR_v (t := b + 57) (by rw [dk_PI, k54]; rfl) (by exact r55), xsI_u (by rw [dk_PI, k57]) (by rw [dk_PI, k57]; exact inb_n (i := 4) (by omega) (by omega)), show (4 : Int32).toNatClampNeg = 4 from rfl]
    refine ⟨_, rfl, (f1.pI _ (Or.inl rfl)).pI _ (Or.inl rfl), ?_, ?_, ?_, ?_, ?_, fun p i hp => absurd hp (Nat.not_lt_zero p), fun p i hp => absurd hp (Nat.not_lt_zero p), fun p i hp => absurd hp (Nat.not_lt_zero p)⟩
    · rw [di_ne (by omega), di_ne (by omega)]; exact g1 0 (by omega)
    · rw [di_ne (by omega), di_ne (by omega)]; exact g1 1 (by omega)
    · rw [di_ne (by omega), di_ne (by omega)]; exact g1 2 (by omega)
    · rw [di_ne (by omega), di_eq]; rfl
    · rw [di_eq]; rfl
  · intro f i M1 hi ⟨f1, g1⟩ hnx
    have s1 := tSh_fr hs f1
    obtain ⟨hN1, k54, ⟨k57, k58, k534⟩, ⟨r55, r56, -⟩, -⟩ := id s1
    show ∃ M2, L_X10_tellsNothing_2 (b + 54) _ (f + 1) (Int32.ofNat i) M1 = some ((), M2) ∧ _
    rw [L_X10_tellsNothing_2, if_neg (show ¬ (3 : Int32) ≤ Int32.ofNat i from of_eq_false (i_geF (n := 3) hi (by omega))), xgR_v (by rw [k54]; rfl) r55, xsI_u (by rw [k57]) (by rw [k57]; exact inb_n (show i < 5 by omega) (by omega)), i_nat (by omega), i_succ]
    refine hnx _ ⟨f1.pI _ (Or.inl rfl), fun k hk => ?_⟩
    rw [di_PI]
    by_cases e : k = i
    · rw [if_pos ⟨rfl, e⟩]
    · rw [if_neg (fun z => e z.2)]; exact g1 k (by omega)
theorem T_fault {e : Nat × Nat} {M1 : dwSt} (hT : TInv b M A) (f : fr (fun a k => sRt b a k ∧ ¬ (a = b + 54 ∧ k = 77) ∧ ¬ (b + 438 ≤ a ∧ a ≤ b + 443)) nz 0 0 M M1) (h : tSt b M1 A L (.inr e)) (h44 : dwI M1 (b + 54) 44 = 0) (h45 : dwI M1 (b + 54) 45 = 0) : ∃ M2, m_X10_ends M1 (b + 54) = some (Int32.ofNat e.1 - 10, M2) ∧ TInv b M2 (aRd A (aBk A) (Int32.ofNat e.2)) ∧ fr (tW b) nz 0 0 M M2 ∧ dwI M2 (b + 54) 44 = 0 := by
  have hs := hT.1.sh
  have hO := hT.1.ok
  obtain ⟨q49, q50, qz⟩ := h.bad
  have ends := t_ends h.1.1
  rw [q49, q50] at ends
  have g := f.pI (a := b + 54) (k := 47) (Int32.ofNat e.2) (Or.inl ⟨Or.inl ⟨rfl, by omega⟩, by omega, by omega⟩)
  have g' : fr (sRt b) nz 0 0 M (dwPI M1 (b + 54) 47 (Int32.ofNat e.2)) := g.mono (fun a k z => z.1) (fun _ _ z => z) (Nat.le_refl _) (Nat.le_refl _)
  refine ⟨_, ends, T_rd hT g' (hT.1.bk.fr hs hO.2.1.1 g (fun z => z.2.1 ⟨rfl, rfl⟩) (fun a k h1 h2 z => z.2.2 ⟨h1, h2⟩)) hO.2.1 di_eq ?_, g'.mono (fun a k q => by unfold sRt at q; unfold tW; omega) (fun _ _ q => q) (Nat.le_refl _) (Nat.le_refl _), ?_⟩
  · rw [di_ne (by omega)]; exact h45
  · rw [di_ne (by omega)]; exact h44
theorem T_land {n : Nat} (hT : TInv b M A) (hn : n ≤ (aTx A).1) : match laF (xbN A) n n t00 0 (blS (xbN A) n 0) with
    | .inl T => ∃ M1, m_X10_land M (b + 54) (Int32.ofNat n) = some (Int32.ofNat (tP T), M1) ∧ TInv b M1 (aLa A T) ∧ fr (tW b) nz 0 0 M M1 ∧ dwI M1 (b + 54) 44 = 0
    | .inr e => ∃ M1, m_X10_land M (b + 54) (Int32.ofNat n) = some (Int32.ofNat e.1 - 10, M1) ∧ TInv b M1 (aRd A (aBk A) (Int32.ofNat e.2)) ∧ fr (tW b) nz 0 0 M M1 ∧ dwI M1 (b + 54) 44 = 0 := by
  obtain ⟨hT0, f0, z0⟩ := tinv_z hT
  have hg := T_guard hT hn
  have sh := hT.1.sh
  have shz := hT0.1.sh
  have hN := shN shz
  have hO := hT.1.ok
  have f0' : fr (fun a k => sRt b a k ∧ ¬ (a = b + 54 ∧ k = 77) ∧ ¬ (b + 438 ≤ a ∧ a ≤ b + 443)) nz 0 0 M (dwPI M (b + 54) 44 0) := (fr.refl M).pI _ (Or.inl ⟨Or.inl ⟨rfl, by omega⟩, by omega, by omega⟩)
  have hx600 := (tpT_of hT).2.1
  have hbad0 := t_bad0 (x := 1) (i := 1) shz z0
  obtain ⟨M2, e2, f2, k2, j45, j51, j52⟩ := tS_starts (n := n) (tpT_of hT0) hn
  have sh2 := k2.1.1
  have hN2 := shN sh2
  obtain ⟨M3, e3, f3, T3⟩ := t_tellsN (tSh_of sh2)
  have k3 := k2.fr f3 (fun k hk => by omega) (fun k => by omega) nz_p
  have sh3 := k3.1.1
  have hN3 := shN sh3
  have F3 : fr (fun a k => sRt b a k ∧ ¬ (a = b + 54 ∧ k = 77) ∧ ¬ (b + 438 ≤ a ∧ a ≤ b + 443)) nz 0 0 M M3 := (f0'.t0 (f2.mono (fun a k z => ⟨Or.inl ⟨z.1, by omega⟩, by omega, by omega⟩) (fun _ _ z => z) (Nat.le_refl _) (Nat.le_refl _))).t0 (f3.mono (fun a k z => ⟨Or.inr (Or.inl z), by omega, by omega⟩) (fun _ _ z => z) (Nat.le_refl _) (Nat.le_refl _))
  have j44 : dwI M3 (b + 54) 44 = 0 := (f3.i (by omega) (by omega)).trans ((f2.i (by omega) (by omega)).trans z0)
  have i45 : dwI M3 (b + 54) 45 = 0 := (f3.i (by omega) (by omega)).trans j45
  have i51 : dwI M3 (b + 54) 51 = Int32.ofNat 0 := (f3.i (by omega) (by omega)).trans j51
  simp -implicitDefEqProofs only [m_X10_land, ↓gp0_2, ↓gp0_3, ↓gp0_4, ↓gp0_5, ↓gp0_6, ↓gp0_7, ↓gp0_8, ↓gp0_9, ↓gp0_10, ↓gp0_18, ↓gp0_19, ↓gp0_20, ↓gp0_22, ↓gp23_43, ↓gp23_32, ↓gp23_33, ↓gp23_34, ↓gp23_35, ↓gp23_36, ↓gp29_43, ↓gp29_32, ↓gp29_33, ↓gp29_34, ↓gp29_35, ↓gp29_36, ↓gp54_53, ↓gp54_54, ↓gp54_55, ↓gp54_56, ↓gp54_57, ↓gp54_58, ↓gp54_59, ↓gp54_60, ↓gp54_61, ↓gp54_62, ↓gp54_65, ↓gp54_66, ↓gp54_67, ↓gp54_68, ↓gp54_69, ↓gp54_70, ↓gp54_71, ↓gp54_73, ↓gp54_74, ↓gp54_75, ↓gp54_76, ↓gp54_84, ↓gp54_85, ↓gp54_87, ↓gp54_88, ↓xr59, kr59, ↓xr67, kr67, ↓xr75, kr75, ↓xr82, kr82, ↓xr89, kr89, ↓xr102, kr102, ↓xr115, kr115, ↓xr276, kr276, ↓xr437, kr437, ↓xr444, kr444, ↓xr453, kr453, ↓xr536, kr536, ↓xr553, kr553, hs0, hw0, hs1, hw1, hs2, hw2, hs3, hw3, hs4, hw4, hs5, hw5, hs6, hw6, hs7, hw7, hs8, hw8, hs9, hw9, hs10, hw10, hs11, hw11, hs12, hw12, hs13, hw13, hs14, hw14, hs15, hw15, hs16, hw16, hs17, hw17, hs18, hw18, hs19, hw19, hs20, hw20, hs21, hw21, hs22, hw22, hs23, hw23, hs25, hw25, hs26, hw26, hs27, hw27, hs28, hw28, hs9b, hw9b, hs10b, hw10b, kd0, kd20, kd21, kd22, kd23, kd24, kd25, kd26, kd27, kd28, kd29, kd30, kd31, kd32, kd33, kd34, kd35, kd36, kd37, kd38, kd39, kd40, kd41, kd42, kd54, kd55, kd56, kd57, kd58, kd59, kd67, kd75, kd82, kd89, kd102, kd115, kd276, kd437, kd444, kd451, kd452, kd453, kd534, kd535, kd536, kd553, kd557, kd558, kd559, kd560, kd561, ↓xgI_u, ↓xpI_u, ↓xaI_u, ↓xsI_u, ↓xrk_u, ↓xrk0_u, ↓xob_v, ↓xmb_v, ↓xth_v, ↓xth_x, ↓jn_u, ↓xlen_u, ↓xaL_u, ↓xsL_u, ↓xbl_0, ↓xbl_1, eq_self, inb_n, inb_d, Sh_PI, Sh_PL, dk_PI, dk_PL, dr_PI, dr_PL, ↓reduceIte, Int32.reduceLE, Int32.reduceLT, Int32.reduceToNatClampNeg, Nat.reduceLT, Nat.reduceLeDiff, Nat.reduceEqDiff, Nat.reduceAdd, Nat.reduceMul, sh, shz, hg, e10, if_false, if_true, hbad0, e2, sh2, e3]
  refine t_laL (E := fun z => match laF (xbN A) n n t00 0 (blS (xbN A) n 0) with
    | .inl T => ∃ M1, z = some (Int32.ofNat (tP T), M1) ∧ TInv b M1 (aLa A T) ∧ fr (tW b) nz 0 0 M M1 ∧ dwI M1 (b + 54) 44 = 0
    | .inr e => ∃ M1, z = some (Int32.ofNat e.1 - 10, M1) ∧ TInv b M1 (aRd A (aBk A) (Int32.ofNat e.2)) ∧ fr (tW b) nz 0 0 M M1 ∧ dwI M1 (b + 54) 44 = 0) n (blS (xbN A) n 0) 1000000 t00 0 M3 (by omega) (by omega) k3 blS_bl T3 t00_ok i51 (by omega) fun M4 f4 z4 => ?_
  have F4 : fr (fun a k => sRt b a k ∧ ¬ (a = b + 54 ∧ k = 77) ∧ ¬ (b + 438 ≤ a ∧ a ≤ b + 443)) nz 0 0 M M4 := F3.t0 (f4.mono (fun a k z => by unfold sCl at z; unfold sRt; omega) (fun _ _ z => z) (Nat.le_refl _) (Nat.le_refl _))
  have sh4 := sh.fr F4 nz_p
  have hN4 := shN sh4
  have q44 : dwI M4 (b + 54) 44 = 0 := (f4.i (by omega) (by unfold sCl; omega)).trans j44
  have q45 : dwI M4 (b + 54) 45 = 0 := (f4.i (by omega) (by unfold sCl; omega)).trans i45
  generalize laF (xbN A) n n t00 0 (blS (xbN A) n 0) = R at *
  cases R with
  | inr e =>
    have z4' : tSt b M4 A n (.inr e) := z4
    obtain ⟨M5, e5, t5, f5, k5⟩ := T_fault hT F4 z4' q44 q45
    have z := z4'.bad.2.2
    refine ⟨M5, ?_, t5, f5, k5⟩
    simp only [↓gp0_2, ↓gp0_3, ↓gp0_4, ↓gp0_5, ↓gp0_6, ↓gp0_7, ↓gp0_8, ↓gp0_9, ↓gp0_10, ↓gp0_18, ↓gp0_19, ↓gp0_20, ↓gp0_22, ↓gp23_43, ↓gp23_32, ↓gp23_33, ↓gp23_34, ↓gp23_35, ↓gp23_36, ↓gp29_43, ↓gp29_32, ↓gp29_33, ↓gp29_34, ↓gp29_35, ↓gp29_36, ↓gp54_53, ↓gp54_54, ↓gp54_55, ↓gp54_56, ↓gp54_57, ↓gp54_58, ↓gp54_59, ↓gp54_60, ↓gp54_61, ↓gp54_62, ↓gp54_65, ↓gp54_66, ↓gp54_67, ↓gp54_68, ↓gp54_69, ↓gp54_70, ↓gp54_71, ↓gp54_73, ↓gp54_74, ↓gp54_75, ↓gp54_76, ↓gp54_84, ↓gp54_85, ↓gp54_87, ↓gp54_88, ↓xr59, kr59, ↓xr67, kr67, ↓xr75, kr75, ↓xr82, kr82, ↓xr89, kr89, ↓xr102, kr102, ↓xr115, kr115, ↓xr276, kr276, ↓xr437, kr437, ↓xr444, kr444, ↓xr453, kr453, ↓xr536, kr536, ↓xr553, kr553, hs0, hw0, hs1, hw1, hs2, hw2, hs3, hw3, hs4, hw4, hs5, hw5, hs6, hw6, hs7, hw7, hs8, hw8, hs9, hw9, hs10, hw10, hs11, hw11, hs12, hw12, hs13, hw13, hs14, hw14, hs15, hw15, hs16, hw16, hs17, hw17, hs18, hw18, hs19, hw19, hs20, hw20, hs21, hw21, hs22, hw22, hs23, hw23, hs25, hw25, hs26, hw26, hs27, hw27, hs28, hw28, hs9b, hw9b, hs10b, hw10b, kd0, kd20, kd21, kd22, kd23, kd24, kd25, kd26, kd27, kd28, kd29, kd30, kd31, kd32, kd33, kd34, kd35, kd36, kd37, kd38, kd39, kd40, kd41, kd42, kd54, kd55, kd56, kd57, kd58, kd59, kd67, kd75, kd82, kd89, kd102, kd115, kd276, kd437, kd444, kd451, kd452, kd453, kd534, kd535, kd536, kd553, kd557, kd558, kd559, kd560, kd561, ↓xgI_u, ↓xpI_u, ↓xaI_u, ↓xsI_u, ↓xrk_u, ↓xrk0_u, ↓xob_v, ↓xmb_v, ↓xth_v, ↓xth_x, ↓jn_u, ↓xlen_u, ↓xaL_u, ↓xsL_u, ↓xbl_0, ↓xbl_1, eq_self, inb_n, inb_d, Sh_PI, Sh_PL, dk_PI, dk_PL, dr_PI, dr_PL, ↓reduceIte, Int32.reduceLE, Int32.reduceLT, Int32.reduceToNatClampNeg, Nat.reduceLT, Nat.reduceLeDiff, Nat.reduceEqDiff, Nat.reduceAdd, Nat.reduceMul, sh4, z, if_false, e5]
  | inl T =>
    obtain ⟨⟨p, k4⟩, T4, hOT⟩ := z4
    have z := k4.ok.2.1
    have f5 := frP M4 (b + 54) 47 (-1)
    have sh5 : Sh b (dwPI M4 (b + 54) 47 (-1)) := sh4
    have T5 := tRT_fr sh4 T4 hOT f5 (fun i k hi => by omega)
    obtain ⟨M6, e6, f6, told6, row6, z63, z77, z78, z79, z80⟩ := t_begA (tSh_of sh5) T5 hOT
    have sh6 := sh5.fr f6 nz_p
    have q58 : dwI M6 (b + 58) 0 = Int32.ofNat (tP T) := told6.1
    have hN6 := shN sh6
    have hN5 := shN sh5
    have F6 : fr (fun a k => a ≠ b + 534 ∨ k < 79) nz 0 0 M M6 := ((F4.mono (S' := fun a k => a ≠ b + 534 ∨ k < 79) (Z' := nz) (fun a k z => by have := z.1; unfold sRt at this; omega) (fun _ _ z => z) (Nat.le_refl _) (Nat.le_refl _)).t0 (f5.mono (fun a k z => by omega) (fun _ _ z => z) (Nat.le_refl _) (Nat.le_refl _))).t0 (f6.mono (fun a k z => by unfold sBA at z; omega) (fun _ _ z => z) (Nat.le_refl _) (Nat.le_refl _))
    have W6 : fr (tW b) nz 0 0 M M6 := ((F4.mono (fun a k z => by have := z.1; unfold sRt at this; unfold tW; omega) (fun _ _ z => z) (Nat.le_refl _) (Nat.le_refl _)).t0 (f5.mono (fun a k z => by unfold tW; omega) (fun _ _ z => z) (Nat.le_refl _) (Nat.le_refl _))).t0 (f6.mono (fun a k z => by unfold sBA at z; unfold tW; omega) (fun _ _ z => z) (Nat.le_refl _) (Nat.le_refl _))
    have i47 : dwI M6 (b + 54) 47 = -1 := (f6.i (by omega) (by unfold sBA; omega)).trans di_eq
    have p45 : dwI M6 (b + 54) 45 = 0 := by rw [f6.i (by omega) (by unfold sBA; omega), di_ne (by omega)]; exact q45
    have p44 : dwI M6 (b + 54) 44 = 0 := by rw [f6.i (by omega) (by unfold sBA; omega), di_ne (by omega)]; exact q44
    have p56 : ∀ k, dwI M6 (b + 56) k = dwI M (b + 56) k := fun k => by
      rw [f6.i (by omega) (by unfold sBA; omega), di_ne (by omega)]
      exact F4.i (by have := shN sh; omega) (fun z => by have := z.1; unfold sRt at this; omega)
    refine ⟨M6, ?_, ⟨tCore_mk (A := aLa A T) sh6 told6 ⟨cus_ext, [], by show 0 ≤ 160; omega, z63, fun k x hx => by simp at hx, Or.inl ⟨rfl, fun f => rfl⟩⟩ ⟨z77, fun k i hk => absurd hk (Nat.not_lt_zero k)⟩ ?_ ⟨z78, fun r k hr => absurd hr (Nat.not_lt_zero r)⟩ ⟨z80, fun i hi => absurd hi (Nat.not_lt_zero i)⟩ z79 i47 ⟨p45, fun k hk => absurd hk (Nat.not_lt_zero k)⟩ (aLa_ok hOT), (p56 0).trans hT.2.1, (p56 1).trans hT.2.2⟩, W6, p44⟩
    · simp only [↓gp0_2, ↓gp0_3, ↓gp0_4, ↓gp0_5, ↓gp0_6, ↓gp0_7, ↓gp0_8, ↓gp0_9, ↓gp0_10, ↓gp0_18, ↓gp0_19, ↓gp0_20, ↓gp0_22, ↓gp23_43, ↓gp23_32, ↓gp23_33, ↓gp23_34, ↓gp23_35, ↓gp23_36, ↓gp29_43, ↓gp29_32, ↓gp29_33, ↓gp29_34, ↓gp29_35, ↓gp29_36, ↓gp54_53, ↓gp54_54, ↓gp54_55, ↓gp54_56, ↓gp54_57, ↓gp54_58, ↓gp54_59, ↓gp54_60, ↓gp54_61, ↓gp54_62, ↓gp54_65, ↓gp54_66, ↓gp54_67, ↓gp54_68, ↓gp54_69, ↓gp54_70, ↓gp54_71, ↓gp54_73, ↓gp54_74, ↓gp54_75, ↓gp54_76, ↓gp54_84, ↓gp54_85, ↓gp54_87, ↓gp54_88, ↓xr59, kr59, ↓xr67, kr67, ↓xr75, kr75, ↓xr82, kr82, ↓xr89, kr89, ↓xr102, kr102, ↓xr115, kr115, ↓xr276, kr276, ↓xr437, kr437, ↓xr444, kr444, ↓xr453, kr453, ↓xr536, kr536, ↓xr553, kr553, hs0, hw0, hs1, hw1, hs2, hw2, hs3, hw3, hs4, hw4, hs5, hw5, hs6, hw6, hs7, hw7, hs8, hw8, hs9, hw9, hs10, hw10, hs11, hw11, hs12, hw12, hs13, hw13, hs14, hw14, hs15, hw15, hs16, hw16, hs17, hw17, hs18, hw18, hs19, hw19, hs20, hw20, hs21, hw21, hs22, hw22, hs23, hw23, hs25, hw25, hs26, hw26, hs27, hw27, hs28, hw28, hs9b, hw9b, hs10b, hw10b, kd0, kd20, kd21, kd22, kd23, kd24, kd25, kd26, kd27, kd28, kd29, kd30, kd31, kd32, kd33, kd34, kd35, kd36, kd37, kd38, kd39, kd40, kd41, kd42, kd54, kd55, kd56, kd57, kd58, kd59, kd67, kd75, kd82, kd89, kd102, kd115, kd276, kd437, kd444, kd451, kd452, kd453, kd534, kd535, kd536, kd553, kd557, kd558, kd559, kd560, kd561, ↓xgI_u, ↓xpI_u, ↓xaI_u, ↓xsI_u, ↓xrk_u, ↓xrk0_u, ↓xob_v, ↓xmb_v, ↓xth_v, ↓xth_x, ↓jn_u, ↓xlen_u, ↓xaL_u, ↓xsL_u, ↓xbl_0, ↓xbl_1, eq_self, inb_n, inb_d, Sh_PI, Sh_PL, dk_PI, dk_PL, dr_PI, dr_PL, ↓reduceIte, Int32.reduceLE, Int32.reduceLT, Int32.reduceToNatClampNeg, Nat.reduceLT, Nat.reduceLeDiff, Nat.reduceEqDiff, Nat.reduceAdd, Nat.reduceMul, sh4, z, if_true, sh5, e6, sh6, q58]
    · funext k
      show _ = if k < 79 then begR (tjug T) k else aNow A k
      by_cases hk : k < 79
      · rw [if_pos hk]; exact row6 k hk
      · rw [if_neg hk, F6.i (by have := shN sh; omega) (by omega), hT.1.now]
theorem call_land (hC : CInv b w M A) (hT : TInv b M A) (hK : KS b M) (hR : room M 9000 113000) (x : Int32) : agree b M (fun M => m_X0_land M b x (b + 561)) (fun M => m_X10_land M (b + 54) x) := by
  have hO := hC.1.ok
  have hx600 := (tpC_of hC).2.1
  have i15 := hC.1.tx.1
  have sh := hC.1.sh
  have hf : ∀ M1 q, m_X1_land M b x = some (.inr (1, q), M1) → m_X0_land M b x (b + 561) = some (.inl 1, M1) := fun M1 q e => by
    simp -implicitDefEqProofs only [m_X0_land, ↓xgI_u, ↓xpI_u, ↓xaI_u, ↓xsI_u, ↓xrk_u, ↓xrk0_u, ↓xob_v, ↓xmb_v, ↓xth_v, ↓xth_x, ↓jn_u, ↓xlen_u, ↓xaL_u, ↓xsL_u, ↓xbl_0, ↓xbl_1, eq_self, inb_n, inb_d, Sh_PI, Sh_PL, dk_PI, dk_PL, dr_PI, dr_PL, ↓reduceIte, Int32.reduceLE, Int32.reduceLT, Int32.reduceToNatClampNeg, Nat.reduceLT, Nat.reduceLeDiff, Nat.reduceEqDiff, Nat.reduceAdd, Nat.reduceMul, kd0 sh, e]
  rcases in_or x ((aTx A).1 + 1) with ⟨n, hn, rfl⟩ | hx
  · have hc := C_land hC hK (show n ≤ (aTx A).1 by omega) hR
    have ht := fun M1 (h1 : TInv b M1 A) => T_land h1 (show n ≤ (aTx A).1 by omega)
    have ok : ∀ M1 (v : Int32), m_X1_land M b (Int32.ofNat n) = some (.inl v, M1) → dwK M1 (b + 561) = (3, 1) → m_X0_land M b (Int32.ofNat n) (b + 561) = some (.inl 0, dwPL M1 (b + 561) 0 v.toInt64) := fun M1 v e k => by
      simp -implicitDefEqProofs only [m_X0_land, ↓xgI_u, ↓xpI_u, ↓xaI_u, ↓xsI_u, ↓xrk_u, ↓xrk0_u, ↓xob_v, ↓xmb_v, ↓xth_v, ↓xth_x, ↓jn_u, ↓xlen_u, ↓xaL_u, ↓xsL_u, ↓xbl_0, ↓xbl_1, eq_self, inb_n, inb_d, Sh_PI, Sh_PL, dk_PI, dk_PL, dr_PI, dr_PL, ↓reduceIte, Int32.reduceLE, Int32.reduceLT, Int32.reduceToNatClampNeg, Nat.reduceLT, Nat.reduceLeDiff, Nat.reduceEqDiff, Nat.reduceAdd, Nat.reduceMul, kd0 sh, e, k]
    generalize laF (xbN A) n n t00 0 (blS (xbN A) n 0) = R at *
    cases R with
    | inl T =>
      refine agree_mk (A' := aLa A T) (k := 0) (v := Int32.ofNat (tP T)) hT (c_rdk (f := fun M => m_X0_land M b (Int32.ofNat n) (b + 561)) hc fun M1 e k => ok M1 _ e k) fun M1 h1 => ?_
      obtain ⟨M2, e, i, f, k⟩ := ht M1 h1
      exact ⟨M2, _, e, i, f, k, fun _ => rfl⟩
    | inr e =>
      refine agree_mk (A' := aRd A (aBk A) (Int32.ofNat e.2)) (k := 0) (v := Int32.ofNat e.1 - 10) hT (c_rdk (f := fun M => m_X0_land M b (Int32.ofNat n) (b + 561)) hc fun M1 e k => ok M1 _ e k) fun M1 h1 => ?_
      obtain ⟨M2, e, i, f, k⟩ := ht M1 h1
      exact ⟨M2, _, e, i, f, k, fun _ => rfl⟩
  · have hg0 := C_guard0 hC hx
    refine rd_fail hC hT hR ?_ hf fun M1 M2 h1 e => ?_
    · rcases hg0 with h | ⟨h, h'⟩
      · refine ⟨_, by
          unfold m_X1_land
          rw [jn_u, jn_u, if_pos h]
          show xrk M b 0 (xth (m_X1_need M b 0) _ _) = _
          rw [xrk_u (kd0 sh)]⟩
      · refine ⟨_, by
          unfold m_X1_land
          rw [jn_u, jn_u, if_neg h, xgI_u (by rw [kd0 sh]; rfl), if_pos h']
          show xrk M b 0 (xth (m_X1_need M b 0) _ _) = _
          rw [xrk_u (kd0 sh)]⟩
    · have hg := T_guard0 h1 hx
      have s1 := h1.1.sh
      have s0 := (tinv_z h1).1.1.sh
      simp -implicitDefEqProofs only [m_X10_land, ↓gp0_2, ↓gp0_3, ↓gp0_4, ↓gp0_5, ↓gp0_6, ↓gp0_7, ↓gp0_8, ↓gp0_9, ↓gp0_10, ↓gp0_18, ↓gp0_19, ↓gp0_20, ↓gp0_22, ↓gp23_43, ↓gp23_32, ↓gp23_33, ↓gp23_34, ↓gp23_35, ↓gp23_36, ↓gp29_43, ↓gp29_32, ↓gp29_33, ↓gp29_34, ↓gp29_35, ↓gp29_36, ↓gp54_53, ↓gp54_54, ↓gp54_55, ↓gp54_56, ↓gp54_57, ↓gp54_58, ↓gp54_59, ↓gp54_60, ↓gp54_61, ↓gp54_62, ↓gp54_65, ↓gp54_66, ↓gp54_67, ↓gp54_68, ↓gp54_69, ↓gp54_70, ↓gp54_71, ↓gp54_73, ↓gp54_74, ↓gp54_75, ↓gp54_76, ↓gp54_84, ↓gp54_85, ↓gp54_87, ↓gp54_88, ↓xr59, kr59, ↓xr67, kr67, ↓xr75, kr75, ↓xr82, kr82, ↓xr89, kr89, ↓xr102, kr102, ↓xr115, kr115, ↓xr276, kr276, ↓xr437, kr437, ↓xr444, kr444, ↓xr453, kr453, ↓xr536, kr536, ↓xr553, kr553, hs0, hw0, hs1, hw1, hs2, hw2, hs3, hw3, hs4, hw4, hs5, hw5, hs6, hw6, hs7, hw7, hs8, hw8, hs9, hw9, hs10, hw10, hs11, hw11, hs12, hw12, hs13, hw13, hs14, hw14, hs15, hw15, hs16, hw16, hs17, hw17, hs18, hw18, hs19, hw19, hs20, hw20, hs21, hw21, hs22, hw22, hs23, hw23, hs25, hw25, hs26, hw26, hs27, hw27, hs28, hw28, hs9b, hw9b, hs10b, hw10b, kd0, kd20, kd21, kd22, kd23, kd24, kd25, kd26, kd27, kd28, kd29, kd30, kd31, kd32, kd33, kd34, kd35, kd36, kd37, kd38, kd39, kd40, kd41, kd42, kd54, kd55, kd56, kd57, kd58, kd59, kd67, kd75, kd82, kd89, kd102, kd115, kd276, kd437, kd444, kd451, kd452, kd453, kd534, kd535, kd536, kd553, kd557, kd558, kd559, kd560, kd561, ↓xgI_u, ↓xpI_u, ↓xaI_u, ↓xsI_u, ↓xrk_u, ↓xrk0_u, ↓xob_v, ↓xmb_v, ↓xth_v, ↓xth_x, ↓jn_u, ↓xlen_u, ↓xaL_u, ↓xsL_u, ↓xbl_0, ↓xbl_1, eq_self, inb_n, inb_d, Sh_PI, Sh_PL, dk_PI, dk_PL, dr_PI, dr_PL, ↓reduceIte, Int32.reduceLE, Int32.reduceLT, Int32.reduceToNatClampNeg, Nat.reduceLT, Nat.reduceLeDiff, Nat.reduceEqDiff, Nat.reduceAdd, Nat.reduceMul, s1, s0, hg, if_true, e10, if_false, e]
end LAND
