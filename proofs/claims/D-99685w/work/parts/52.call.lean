section CALL
variable {b : Nat} {w : Nat → Nat} {M : dwSt} {A : dvA}
/-! comfort -/
def comG (A : dvA) (s : Nat) : Prop := whoS (tP (aT A)) (aNow A) 0 &&& (rndS (aT A) (Int32.ofNat s) ^^^ (-1)) = 0
theorem com_all {A : dvA} (hO : tOK (aT A)) : comG A (2 ^ tP (aT A) - 1) := by
  have o1 := hO.1
  have hp : 0 < 2 ^ tP (aT A) := Nat.two_pow_pos _
  unfold comG
  rw [who_n o1, rnd_n hO (by omega)]
  refine notin (fun i hi => ?_) (whoN_lt o1)
  rw [whoN_b, decide_eq_true_eq] at hi
  refine (rnN_b _ _ _ _).mpr (Or.inl ?_)
  rw [Nat.testBit_two_pow_sub_one]
  exact decide_eq_true hi.1
theorem C_comfort (hC : CInv b w M A) : ∃ v, m_X1_comfort M b = some v ∧ minP (comG A) cntS 0 (2 ^ tP (aT A)) v := by
  have hO := hC.1.ok.1
  have o1 := hO.1
  have h128 := p2_le o1
  have hs := hC.1.1
  have hp : 0 < 2 ^ tP (aT A) := Nat.two_pow_pos _
  obtain ⟨d, g0, hd, -⟩ := c_told hs hC.1.2.1
  have w0 := c_some (r := aNow A) (o := 0) hs hC.1.2.1 hC.1.2.2.2.2.1.1 (kd24 hs) (fun p hp => by rw [Nat.zero_add]; exact hC.1.2.2.2.2.1.2.1 p hp)
  simp -implicitDefEqProofs only [m_X1_comfort, ↓gp0_2, ↓gp0_3, ↓gp0_4, ↓gp0_5, ↓gp0_6, ↓gp0_7, ↓gp0_8, ↓gp0_9, ↓gp0_10, ↓gp0_18, ↓gp0_19, ↓gp0_20, ↓gp0_22, ↓gp23_43, ↓gp23_32, ↓gp23_33, ↓gp23_34, ↓gp23_35, ↓gp23_36, ↓gp29_43, ↓gp29_32, ↓gp29_33, ↓gp29_34, ↓gp29_35, ↓gp29_36, ↓gp54_53, ↓gp54_54, ↓gp54_55, ↓gp54_56, ↓gp54_57, ↓gp54_58, ↓gp54_59, ↓gp54_60, ↓gp54_61, ↓gp54_62, ↓gp54_65, ↓gp54_66, ↓gp54_67, ↓gp54_68, ↓gp54_69, ↓gp54_70, ↓gp54_71, ↓gp54_73, ↓gp54_74, ↓gp54_75, ↓gp54_76, ↓gp54_84, ↓gp54_85, ↓gp54_87, ↓gp54_88, ↓xr59, kr59, ↓xr67, kr67, ↓xr75, kr75, ↓xr82, kr82, ↓xr89, kr89, ↓xr102, kr102, ↓xr115, kr115, ↓xr276, kr276, ↓xr437, kr437, ↓xr444, kr444, ↓xr453, kr453, ↓xr536, kr536, ↓xr553, kr553, hs0, hw0, hs1, hw1, hs2, hw2, hs3, hw3, hs4, hw4, hs5, hw5, hs6, hw6, hs7, hw7, hs8, hw8, hs9, hw9, hs10, hw10, hs11, hw11, hs12, hw12, hs13, hw13, hs14, hw14, hs15, hw15, hs16, hw16, hs17, hw17, hs18, hw18, hs19, hw19, hs20, hw20, hs21, hw21, hs22, hw22, hs23, hw23, hs25, hw25, hs26, hw26, hs27, hw27, hs28, hw28, hs9b, hw9b, hs10b, hw10b, kd0, kd20, kd21, kd22, kd23, kd24, kd25, kd26, kd27, kd28, kd29, kd30, kd31, kd32, kd33, kd34, kd35, kd36, kd37, kd38, kd39, kd40, kd41, kd42, kd54, kd55, kd56, kd57, kd58, kd59, kd67, kd75, kd82, kd89, kd102, kd115, kd276, kd437, kd444, kd451, kd452, kd453, kd534, kd535, kd536, kd553, kd557, kd558, kd559, kd560, kd561, ↓xgI_u, ↓xpI_u, ↓xaI_u, ↓xsI_u, ↓xrk_u, ↓xrk0_u, ↓xob_v, ↓xmb_v, ↓xth_v, ↓xth_x, ↓jn_u, ↓xlen_u, ↓xaL_u, ↓xsL_u, ↓xbl_0, ↓xbl_1, eq_self, inb_n, inb_d, Sh_PI, Sh_PL, dk_PI, dk_PL, dr_PI, dr_PL, ↓reduceIte, Int32.reduceLE, Int32.reduceLT, Int32.reduceToNatClampNeg, Nat.reduceLT, Nat.reduceLeDiff, Nat.reduceEqDiff, Nat.reduceAdd, Nat.reduceMul, hs, w0]
  refine lpx (E := fun y => ∃ v, y = some v ∧ minP (comG A) cntS 0 (2 ^ tP (aT A)) v) (fun f i (y : Int32) => L_X1_comfort_19 M b (whoS (tP (aT A)) (aNow A) 0) (fun (y5 : Int32) => some y5) f y (Int32.ofNat i)) (2 ^ tP (aT A)) (fun i y => minP (comG A) cntS 0 i y) ?_ ?_ 1000000 0 (-1) (by omega) (by omega) minP_0
  · intro f y e
    refine ⟨y, ?_, e⟩
    simp -implicitDefEqProofs only [L_X1_comfort_19, ↓xgI_u, ↓xpI_u, ↓xaI_u, ↓xsI_u, ↓xrk_u, ↓xrk0_u, ↓xob_v, ↓xmb_v, ↓xth_v, ↓xth_x, ↓jn_u, ↓xlen_u, ↓xaL_u, ↓xsL_u, ↓xbl_0, ↓xbl_1, eq_self, inb_n, inb_d, Sh_PI, Sh_PL, dk_PI, dk_PL, dr_PI, dr_PL, ↓reduceIte, Int32.reduceLE, Int32.reduceLT, Int32.reduceToNatClampNeg, Nat.reduceLT, Nat.reduceLeDiff, Nat.reduceEqDiff, Nat.reduceAdd, Nat.reduceMul, kd0 hs, c_all hC, i_ltT (show 2 ^ tP (aT A) - 1 < 2 ^ tP (aT A) by omega) (by omega), if_true]
  · intro f i y hi e hnx
    have hlt : (Int32.ofNat (2 ^ tP (aT A) - 1) < Int32.ofNat i) = False := by rw [i_lt (by omega) (by omega)]; exact eq_false (by omega)
    have bi : m_J16_bitCount (Int32.ofNat i) = some (cntS i) := c_bits (set7_s hi o1)
    by_cases h1 : whoS (tP (aT A)) (aNow A) 0 &&& (rndS (aT A) (Int32.ofNat i) ^^^ (-1)) = 0
    · have gg : comG A i := h1
      rcases minP_r e with em | ⟨r, hr, er⟩
      · subst em
        simp -implicitDefEqProofs only [L_X1_comfort_19, ↓xgI_u, ↓xpI_u, ↓xaI_u, ↓xsI_u, ↓xrk_u, ↓xrk0_u, ↓xob_v, ↓xmb_v, ↓xth_v, ↓xth_x, ↓jn_u, ↓xlen_u, ↓xaL_u, ↓xsL_u, ↓xbl_0, ↓xbl_1, eq_self, inb_n, inb_d, Sh_PI, Sh_PL, dk_PI, dk_PL, dr_PI, dr_PL, ↓reduceIte, Int32.reduceLE, Int32.reduceLT, Int32.reduceToNatClampNeg, Nat.reduceLT, Nat.reduceLeDiff, Nat.reduceEqDiff, Nat.reduceAdd, Nat.reduceMul, kd0 hs, c_all hC, hlt, if_false, g0, hd.2.1, c_round hC hd, h1, if_true, i_succ]
        exact hnx _ (minP_new (by omega) e (by omega) gg)
      · subst er
        have br : m_J16_bitCount (Int32.ofNat r) = some (cntS r) := c_bits (set7_s (n := tP (aT A)) (by omega) o1)
        obtain ⟨k1, k2⟩ := minP_up (i := i) (by omega) e (show r < 1000000 by omega) (by omega) gg
        by_cases hc : cntS r ≤ cntS i
        · simp -implicitDefEqProofs only [L_X1_comfort_19, ↓xgI_u, ↓xpI_u, ↓xaI_u, ↓xsI_u, ↓xrk_u, ↓xrk0_u, ↓xob_v, ↓xmb_v, ↓xth_v, ↓xth_x, ↓jn_u, ↓xlen_u, ↓xaL_u, ↓xsL_u, ↓xbl_0, ↓xbl_1, eq_self, inb_n, inb_d, Sh_PI, Sh_PL, dk_PI, dk_PL, dr_PI, dr_PL, ↓reduceIte, Int32.reduceLE, Int32.reduceLT, Int32.reduceToNatClampNeg, Nat.reduceLT, Nat.reduceLeDiff, Nat.reduceEqDiff, Nat.reduceAdd, Nat.reduceMul, kd0 hs, c_all hC, hlt, if_false, g0, hd.2.1, c_round hC hd, h1, if_true, nn_m1 (show r < 2147483648 by omega), bi, br, hc, i_succ]
          exact hnx _ (k2 (Int32.not_lt.mpr hc))
        · simp -implicitDefEqProofs only [L_X1_comfort_19, ↓xgI_u, ↓xpI_u, ↓xaI_u, ↓xsI_u, ↓xrk_u, ↓xrk0_u, ↓xob_v, ↓xmb_v, ↓xth_v, ↓xth_x, ↓jn_u, ↓xlen_u, ↓xaL_u, ↓xsL_u, ↓xbl_0, ↓xbl_1, eq_self, inb_n, inb_d, Sh_PI, Sh_PL, dk_PI, dk_PL, dr_PI, dr_PL, ↓reduceIte, Int32.reduceLE, Int32.reduceLT, Int32.reduceToNatClampNeg, Nat.reduceLT, Nat.reduceLeDiff, Nat.reduceEqDiff, Nat.reduceAdd, Nat.reduceMul, kd0 hs, c_all hC, hlt, if_false, g0, hd.2.1, c_round hC hd, h1, if_true, nn_m1 (show r < 2147483648 by omega), bi, br, hc, i_succ]
          exact hnx _ (k1 (Int32.not_le.mp hc))
    · simp -implicitDefEqProofs only [L_X1_comfort_19, ↓xgI_u, ↓xpI_u, ↓xaI_u, ↓xsI_u, ↓xrk_u, ↓xrk0_u, ↓xob_v, ↓xmb_v, ↓xth_v, ↓xth_x, ↓jn_u, ↓xlen_u, ↓xaL_u, ↓xsL_u, ↓xbl_0, ↓xbl_1, eq_self, inb_n, inb_d, Sh_PI, Sh_PL, dk_PI, dk_PL, dr_PI, dr_PL, ↓reduceIte, Int32.reduceLE, Int32.reduceLT, Int32.reduceToNatClampNeg, Nat.reduceLT, Nat.reduceLeDiff, Nat.reduceEqDiff, Nat.reduceAdd, Nat.reduceMul, kd0 hs, c_all hC, hlt, if_false, g0, hd.2.1, c_round hC hd, h1, i_succ]
      exact hnx _ (minP_no e h1)
theorem T_comfort (hT : TInv b M A) : ∃ v, m_X10_comfort M (b + 54) = some (v, dwPI M (b + 54) 44 0) ∧ minP (comG A) cntS 0 (2 ^ tP (aT A)) v := by
  have hO := hT.1.ok.1
  have o1 := hO.1
  have h128 := p2_le o1
  obtain ⟨hT0, fz, z0⟩ := tinv_z hT
  have hs0 := hT0.1.1
  have hp : 0 < 2 ^ tP (aT A) := Nat.two_pow_pos _
  have hall := com_all hO
  simp -implicitDefEqProofs only [m_X10_comfort, ↓gp0_2, ↓gp0_3, ↓gp0_4, ↓gp0_5, ↓gp0_6, ↓gp0_7, ↓gp0_8, ↓gp0_9, ↓gp0_10, ↓gp0_18, ↓gp0_19, ↓gp0_20, ↓gp0_22, ↓gp23_43, ↓gp23_32, ↓gp23_33, ↓gp23_34, ↓gp23_35, ↓gp23_36, ↓gp29_43, ↓gp29_32, ↓gp29_33, ↓gp29_34, ↓gp29_35, ↓gp29_36, ↓gp54_53, ↓gp54_54, ↓gp54_55, ↓gp54_56, ↓gp54_57, ↓gp54_58, ↓gp54_59, ↓gp54_60, ↓gp54_61, ↓gp54_62, ↓gp54_65, ↓gp54_66, ↓gp54_67, ↓gp54_68, ↓gp54_69, ↓gp54_70, ↓gp54_71, ↓gp54_73, ↓gp54_74, ↓gp54_75, ↓gp54_76, ↓gp54_84, ↓gp54_85, ↓gp54_87, ↓gp54_88, ↓xr59, kr59, ↓xr67, kr67, ↓xr75, kr75, ↓xr82, kr82, ↓xr89, kr89, ↓xr102, kr102, ↓xr115, kr115, ↓xr276, kr276, ↓xr437, kr437, ↓xr444, kr444, ↓xr453, kr453, ↓xr536, kr536, ↓xr553, kr553, hs0, hw0, hs1, hw1, hs2, hw2, hs3, hw3, hs4, hw4, hs5, hw5, hs6, hw6, hs7, hw7, hs8, hw8, hs9, hw9, hs10, hw10, hs11, hw11, hs12, hw12, hs13, hw13, hs14, hw14, hs15, hw15, hs16, hw16, hs17, hw17, hs18, hw18, hs19, hw19, hs20, hw20, hs21, hw21, hs22, hw22, hs23, hw23, hs25, hw25, hs26, hw26, hs27, hw27, hs28, hw28, hs9b, hw9b, hs10b, hw10b, kd0, kd20, kd21, kd22, kd23, kd24, kd25, kd26, kd27, kd28, kd29, kd30, kd31, kd32, kd33, kd34, kd35, kd36, kd37, kd38, kd39, kd40, kd41, kd42, kd54, kd55, kd56, kd57, kd58, kd59, kd67, kd75, kd82, kd89, kd102, kd115, kd276, kd437, kd444, kd451, kd452, kd453, kd534, kd535, kd536, kd553, kd557, kd558, kd559, kd560, kd561, ↓xgI_u, ↓xpI_u, ↓xaI_u, ↓xsI_u, ↓xrk_u, ↓xrk0_u, ↓xob_v, ↓xmb_v, ↓xth_v, ↓xth_x, ↓jn_u, ↓xlen_u, ↓xaL_u, ↓xsL_u, ↓xbl_0, ↓xbl_1, eq_self, inb_n, inb_d, Sh_PI, Sh_PL, dk_PI, dk_PL, dr_PI, dr_PL, ↓reduceIte, Int32.reduceLE, Int32.reduceLT, Int32.reduceToNatClampNeg, Nat.reduceLT, Nat.reduceLeDiff, Nat.reduceEqDiff, Nat.reduceAdd, Nat.reduceMul, hT.1.1, hT0.1.2.1.1, all_n _ (show tP (aT A) < 8 by omega)]
  generalize dwPI M (b + 54) 44 0 = M0 at *
  have w0 : m_X10_whoHas M0 (b + 54) (b + 534) 0 = _ := t_whoHas (o := 0) hs0 hT0.1.2.1 (kd534 hs0) (by omega)
  rw [hT0.1.2.2.2.2.1] at w0
  generalize hN : 2 ^ tP (aT A) = N at *
  have key : ∀ f, N < f → ∃ v, L_X10_comfort_18 M0 (b + 54) (fun (y4 : Int32) => some (y4, M0)) f (Int32.ofNat (N - 1)) (Int32.ofNat (N - 0) - 1) = some (v, M0) ∧ minP (comG A) cntS 0 N v := by
    intro f hf
    refine lpx (E := fun y => ∃ v, y = some (v, M0) ∧ minP (comG A) cntS 0 N v) (fun f i (y : Int32) => L_X10_comfort_18 M0 (b + 54) (fun (y4 : Int32) => some (y4, M0)) f y (Int32.ofNat (N - i) - 1)) N (fun i y => (i = 0 ∧ y = Int32.ofNat (N - 1)) ∨ (0 < i ∧ minP (comG A) cntS (N - i) N y ∧ ∃ r, r < N ∧ y = Int32.ofNat r)) ?_ ?_ f 0 (Int32.ofNat (N - 1)) (by omega) (by omega) (Or.inl ⟨rfl, rfl⟩)
    · intro f y e
      refine ⟨y, ?_, ?_⟩
      · show L_X10_comfort_18 M0 (b + 54) _ (f + 1) y (Int32.ofNat (N - N) - 1) = _
        rw [Nat.sub_self, L_X10_comfort_18, if_pos (by decide)]
      · rcases e with ⟨e, -⟩ | ⟨-, e, -⟩
        · omega
        · rw [Nat.sub_self] at e; exact e
    · intro f i y hi e hnx
      obtain ⟨d1, d2⟩ := x_dn hi
      obtain ⟨k, hk⟩ : ∃ k, N - i = k + 1 := ⟨N - i - 1, by omega⟩
      have hk2 : N - (i + 1) = k := by omega
      have hk3 : N - i - 1 = k := by omega
      rw [hk3] at d1 d2
      show ∃ v, L_X10_comfort_18 M0 (b + 54) _ (f + 1) y (Int32.ofNat (N - i) - 1) = _ ∧ _
      rw [d1]
      have dn : ∀ z r, r < N → z = Int32.ofNat r → minP (comG A) cntS k N z → ∃ v, L_X10_comfort_18 M0 (b + 54) (fun (y4 : Int32) => some (y4, M0)) f z (Int32.ofNat k + (-1)) = some (v, M0) ∧ minP (comG A) cntS 0 N v := fun z r hr ez h1 => by
        rw [d2]
        exact hnx z (Or.inr ⟨by omega, by rw [hk2]; exact h1, r, hr, ez⟩)
      rw [L_X10_comfort_18, if_neg (by rw [i_neg (by omega)]; exact id), jn_u, t_comf27 hT0]
      simp only [↓gp0_2, ↓gp0_3, ↓gp0_4, ↓gp0_5, ↓gp0_6, ↓gp0_7, ↓gp0_8, ↓gp0_9, ↓gp0_10, ↓gp0_18, ↓gp0_19, ↓gp0_20, ↓gp0_22, ↓gp23_43, ↓gp23_32, ↓gp23_33, ↓gp23_34, ↓gp23_35, ↓gp23_36, ↓gp29_43, ↓gp29_32, ↓gp29_33, ↓gp29_34, ↓gp29_35, ↓gp29_36, ↓gp54_53, ↓gp54_54, ↓gp54_55, ↓gp54_56, ↓gp54_57, ↓gp54_58, ↓gp54_59, ↓gp54_60, ↓gp54_61, ↓gp54_62, ↓gp54_65, ↓gp54_66, ↓gp54_67, ↓gp54_68, ↓gp54_69, ↓gp54_70, ↓gp54_71, ↓gp54_73, ↓gp54_74, ↓gp54_75, ↓gp54_76, ↓gp54_84, ↓gp54_85, ↓gp54_87, ↓gp54_88, ↓xr59, kr59, ↓xr67, kr67, ↓xr75, kr75, ↓xr82, kr82, ↓xr89, kr89, ↓xr102, kr102, ↓xr115, kr115, ↓xr276, kr276, ↓xr437, kr437, ↓xr444, kr444, ↓xr453, kr453, ↓xr536, kr536, ↓xr553, kr553, hs0, hw0, hs1, hw1, hs2, hw2, hs3, hw3, hs4, hw4, hs5, hw5, hs6, hw6, hs7, hw7, hs8, hw8, hs9, hw9, hs10, hw10, hs11, hw11, hs12, hw12, hs13, hw13, hs14, hw14, hs15, hw15, hs16, hw16, hs17, hw17, hs18, hw18, hs19, hw19, hs20, hw20, hs21, hw21, hs22, hw22, hs23, hw23, hs25, hw25, hs26, hw26, hs27, hw27, hs28, hw28, hs9b, hw9b, hs10b, hw10b, kd0, kd20, kd21, kd22, kd23, kd24, kd25, kd26, kd27, kd28, kd29, kd30, kd31, kd32, kd33, kd34, kd35, kd36, kd37, kd38, kd39, kd40, kd41, kd42, kd54, kd55, kd56, kd57, kd58, kd59, kd67, kd75, kd82, kd89, kd102, kd115, kd276, kd437, kd444, kd451, kd452, kd453, kd534, kd535, kd536, kd553, kd557, kd558, kd559, kd560, kd561, ↓xgI_u, ↓xpI_u, ↓xaI_u, ↓xsI_u, ↓xrk_u, ↓xrk0_u, ↓xob_v, ↓xmb_v, ↓xth_v, ↓xth_x, ↓jn_u, ↓xlen_u, ↓xaL_u, ↓xsL_u, ↓xbl_0, ↓xbl_1, eq_self, inb_n, inb_d, Sh_PI, Sh_PL, dk_PI, dk_PL, dr_PI, dr_PL, ↓reduceIte, Int32.reduceLE, Int32.reduceLT, Int32.reduceToNatClampNeg, Nat.reduceLT, Nat.reduceLeDiff, Nat.reduceEqDiff, Nat.reduceAdd, Nat.reduceMul, hs0, w0, t_ones]
      rcases e with ⟨e1, e2⟩ | ⟨e1, e2, r, hr, e3⟩
      · subst e1
        have ek : k = N - 1 := by omega
        subst ek
        subst e2
        have h1 : whoS (tP (aT A)) (aNow A) 0 &&& (rndS (aT A) (Int32.ofNat (N - 1)) ^^^ (-1)) = 0 := hall
        simp only [h1, if_true, Int32.lt_irrefl, if_false]
        refine dn _ (N - 1) (by omega) rfl ?_
        have h0 : minP (comG A) cntS (N - 1 + 1) N (-1) := by rw [show N - 1 + 1 = N by omega]; exact minP_0
        exact (minP_dn h0 (by omega) (by omega)).2.1 hall rfl
      · rw [hk] at e2
        obtain ⟨m1, m2, m3⟩ := minP_dn e2 (by omega) (by omega)
        by_cases h1 : whoS (tP (aT A)) (aNow A) 0 &&& (rndS (aT A) (Int32.ofNat k) ^^^ (-1)) = 0
        · obtain ⟨k1, k2⟩ := m3 h1 r (by omega) e3
          subst e3
          by_cases hc : cntS r < cntS k
          · have hc' : onesS (Int32.ofNat r) < onesS (Int32.ofNat k) := hc
            simp only [h1, if_true, hc']
            exact dn _ r hr rfl (k2 (Int32.not_le.mpr hc))
          · have hc' : ¬ onesS (Int32.ofNat r) < onesS (Int32.ofNat k) := hc
            simp only [h1, if_true, hc', if_false]
            exact dn _ k (by omega) rfl (k1 (Int32.not_lt.mp hc))
        · simp only [h1, if_false]
          exact dn y r hr e3 (m1 h1)
  obtain ⟨v, h1, h2⟩ := key 1000000 (by omega)
  rw [(x_dn hp).1] at h1
  exact ⟨v, h1, h2⟩
theorem call_comfort (hC : CInv b w M A) (hT : TInv b M A) : agreeP b M (fun M => m_X1_comfort M b) (fun M => m_X10_comfort M (b + 54)) := by
  obtain ⟨v, e, hm⟩ := C_comfort hC
  obtain ⟨v', e', hm'⟩ := T_comfort hT
  rw [← minP_u hm hm'] at e'
  exact agreeP_mk (A' := A) (v := v) hC e (t_okp (g := fun M => m_X10_comfort M (b + 54)) hT ⟨_, e', fr.refl _⟩)
/-! parts -/
def parS (A : dvA) (n : Nat) : Nat × Nat := itr (fun p s => if s.1.testBit p = true then s else (s.1 ||| rchN (aT A) p (tP (aT A)), s.2 + 1)) (0, 0) n
theorem parS_e (A : dvA) (n : Nat) : parS A (n + 1) = if (parS A n).1.testBit n = true then parS A n else ((parS A n).1 ||| rchN (aT A) n (tP (aT A)), (parS A n).2 + 1) := rfl
theorem par_q {A : dvA} (hO : tOK (aT A)) : ∀ n, n ≤ tP (aT A) → (parS A n).1 < 2 ^ tP (aT A) ∧ rnN (aT A) (parS A n).1 (tP (aT A)) = (parS A n).1 ∧ (parS A n).2 ≤ n := by
  intro n
  induction n with
  | zero =>
    intro _
    refine ⟨Nat.two_pow_pos _, ?_, Nat.le_refl _⟩
    refine sub_a (fun i h => ?_) (sub_r _ _)
    rw [rnN_b] at h
    exact h.elim id (fun ⟨p, _, h, _⟩ => by rw [show (parS A 0).1 = 0 from rfl, Nat.zero_testBit] at h; exact Bool.noConfusion h)
  | succ n ih =>
    intro hn
    obtain ⟨h1, h2, h3⟩ := ih (by omega)
    rw [parS_e]
    by_cases e : (parS A n).1.testBit n = true
    · rw [if_pos e]; exact ⟨h1, h2, by omega⟩
    · rw [if_neg e]
      refine ⟨Nat.or_lt_two_pow h1 (rch_lt hO (by omega) _), ?_, by show _ + 1 ≤ _; omega⟩
      show rnN (aT A) (_ ||| _) _ = _ ||| _
      rw [rn_o, h2, ← rchN_e, rch_end hO (show n < tP (aT A) by omega) (tP (aT A) + 1) (by omega)]
theorem rch_in {A : dvA} {S p : Nat} (hS : rnN (aT A) S (tP (aT A)) = S) (hp : S.testBit p = true) : ∀ n, sub (rchN (aT A) p n) S := by
  intro n
  induction n with
  | zero =>
    intro i hi
    rw [show rchN (aT A) p 0 = 2 ^ p from rfl, Nat.testBit_two_pow] at hi
    rw [← of_decide_eq_true hi]; exact hp
  | succ n ih =>
    rw [rchN_e]
    have := sub_m (T := aT A) ih
    rw [hS] at this
    exact this
theorem C_parts (hC : CInv b w M A) : m_X1_parts M b = some (Int32.ofNat (parS A (tP (aT A))).2) := by
  have hO := hC.1.ok.1
  have o1 := hO.1
  have h128 := p2_le o1
  have hs := hC.1.1
  obtain ⟨d, g0, hd, -⟩ := c_told hs hC.1.2.1
  simp -implicitDefEqProofs only [m_X1_parts, jn_u]
  refine lpx (E := fun y => y = some (Int32.ofNat (parS A (tP (aT A))).2)) (fun f i (s : Int32 × Int32) => L_X1_parts_6 M b (fun (y1 : Int32) => some y1) f s.1 s.2 (Int32.ofNat i)) (tP (aT A)) (fun i s => s = (Int32.ofNat (parS A i).1, Int32.ofNat (parS A i).2)) ?_ ?_ 1000000 0 (0, 0) (by omega) (by omega) rfl
  · intro f s e
    subst e
    simp -implicitDefEqProofs only [L_X1_parts_6, ↓xgI_u, ↓xpI_u, ↓xaI_u, ↓xsI_u, ↓xrk_u, ↓xrk0_u, ↓xob_v, ↓xmb_v, ↓xth_v, ↓xth_x, ↓jn_u, ↓xlen_u, ↓xaL_u, ↓xsL_u, ↓xbl_0, ↓xbl_1, eq_self, inb_n, inb_d, Sh_PI, Sh_PL, dk_PI, dk_PL, dr_PI, dr_PL, ↓reduceIte, Int32.reduceLE, Int32.reduceLT, Int32.reduceToNatClampNeg, Nat.reduceLT, Nat.reduceLeDiff, Nat.reduceEqDiff, Nat.reduceAdd, Nat.reduceMul, kd0 hs, c_persons hs hC.1.2.1, i_geT, if_true]
  · intro f i s hi e hn
    obtain ⟨q1, q2, q3⟩ := par_q hO i (by omega)
    have es := parS_e A i
    have hr := rch_lt hO hi
    subst e
    by_cases hc : (parS A i).1.testBit i = true
    · rw [if_pos hc] at es
      have hh := (has_ofN (a := (parS A i).1) (by omega) (show i < 7 by omega)).mpr hc
      simp -implicitDefEqProofs only [L_X1_parts_6, m_X1_has, ↓xgI_u, ↓xpI_u, ↓xaI_u, ↓xsI_u, ↓xrk_u, ↓xrk0_u, ↓xob_v, ↓xmb_v, ↓xth_v, ↓xth_x, ↓jn_u, ↓xlen_u, ↓xaL_u, ↓xsL_u, ↓xbl_0, ↓xbl_1, eq_self, inb_n, inb_d, Sh_PI, Sh_PL, dk_PI, dk_PL, dr_PI, dr_PL, ↓reduceIte, Int32.reduceLE, Int32.reduceLT, Int32.reduceToNatClampNeg, Nat.reduceLT, Nat.reduceLeDiff, Nat.reduceEqDiff, Nat.reduceAdd, Nat.reduceMul, kd0 hs, c_persons hs hC.1.2.1, i_geF hi (by omega), if_false, hh, if_true, e10, i_succ]
      exact hn (_, _) (by rw [es]; rfl)
    · rw [if_neg hc] at es
      have hh : ¬ (Int32.ofNat (parS A i).1 >>> (Int32.ofNat i &&& 31)) &&& 1 = 1 := fun z => hc ((has_ofN (by omega) (show i < 7 by omega)).mp z)
      simp -implicitDefEqProofs only [L_X1_parts_6, m_X1_has, ↓xgI_u, ↓xpI_u, ↓xaI_u, ↓xsI_u, ↓xrk_u, ↓xrk0_u, ↓xob_v, ↓xmb_v, ↓xth_v, ↓xth_x, ↓jn_u, ↓xlen_u, ↓xaL_u, ↓xsL_u, ↓xbl_0, ↓xbl_1, eq_self, inb_n, inb_d, Sh_PI, Sh_PL, dk_PI, dk_PL, dr_PI, dr_PL, ↓reduceIte, Int32.reduceLE, Int32.reduceLT, Int32.reduceToNatClampNeg, Nat.reduceLT, Nat.reduceLeDiff, Nat.reduceEqDiff, Nat.reduceAdd, Nat.reduceMul, kd0 hs, c_persons hs hC.1.2.1, i_geF hi (by omega), if_false, hh, if_true, bit_n (show i < 7 by omega), i_succ]
      refine lpx (E := fun y => y = some (Int32.ofNat (parS A (tP (aT A))).2)) (fun f' t (x : Int32) => L_X1_parts_30 M b (Int32.ofNat (parS A i).1) (Int32.ofNat (parS A i).2) (Int32.ofNat i) (fun (y6 : Int32) => L_X1_parts_6 M b (fun (y1 : Int32) => some y1) f (Int32.ofNat (parS A i).1 ||| y6) (Int32.ofNat ((parS A i).2 + 1)) (Int32.ofNat (i + 1))) f' x) (tP (aT A)) (fun t x => x = Int32.ofNat (rchN (aT A) i t)) ?_ ?_ 1000000 0 (Int32.ofNat (2 ^ i)) (by omega) (by omega) rfl
      · intro f' x e
        subst e
        have hst : rchN (aT A) i (tP (aT A) + 1) = rchN (aT A) i (tP (aT A)) := rch_end hO hi _ (by omega)
        rw [rchN_e] at hst
        simp -implicitDefEqProofs only [L_X1_parts_30, ↓xgI_u, ↓xpI_u, ↓xaI_u, ↓xsI_u, ↓xrk_u, ↓xrk0_u, ↓xob_v, ↓xmb_v, ↓xth_v, ↓xth_x, ↓jn_u, ↓xlen_u, ↓xaL_u, ↓xsL_u, ↓xbl_0, ↓xbl_1, eq_self, inb_n, inb_d, Sh_PI, Sh_PL, dk_PI, dk_PL, dr_PI, dr_PL, ↓reduceIte, Int32.reduceLE, Int32.reduceLT, Int32.reduceToNatClampNeg, Nat.reduceLT, Nat.reduceLeDiff, Nat.reduceEqDiff, Nat.reduceAdd, Nat.reduceMul, g0, hd.2.1, c_round hC hd, rnd_n hO (hr (tP (aT A))), hst, if_true, i_or]
        exact hn (_, _) (by rw [es]; rfl)
      · intro f' t x ht e hn2
        subst e
        by_cases hst : rchN (aT A) i (t + 1) = rchN (aT A) i t
        · have hst2 := rch_st hst (tP (aT A)) (by omega)
          rw [rchN_e] at hst
          simp -implicitDefEqProofs only [L_X1_parts_30, ↓xgI_u, ↓xpI_u, ↓xaI_u, ↓xsI_u, ↓xrk_u, ↓xrk0_u, ↓xob_v, ↓xmb_v, ↓xth_v, ↓xth_x, ↓jn_u, ↓xlen_u, ↓xaL_u, ↓xsL_u, ↓xbl_0, ↓xbl_1, eq_self, inb_n, inb_d, Sh_PI, Sh_PL, dk_PI, dk_PL, dr_PI, dr_PL, ↓reduceIte, Int32.reduceLE, Int32.reduceLT, Int32.reduceToNatClampNeg, Nat.reduceLT, Nat.reduceLeDiff, Nat.reduceEqDiff, Nat.reduceAdd, Nat.reduceMul, g0, hd.2.1, c_round hC hd, rnd_n hO (hr t), hst, if_true, i_or]
          exact hn (_, _) (by rw [es, hst2]; rfl)
        · have hl2 := hr (t + 1)
          have hl1 := hr t
          have hst2 : (Int32.ofNat (rnN (aT A) (rchN (aT A) i t) (tP (aT A))) = Int32.ofNat (rchN (aT A) i t)) = False := by
            rw [← rchN_e, i_inj (by omega) (by omega)]; exact eq_false hst
          simp -implicitDefEqProofs only [L_X1_parts_30, ↓xgI_u, ↓xpI_u, ↓xaI_u, ↓xsI_u, ↓xrk_u, ↓xrk0_u, ↓xob_v, ↓xmb_v, ↓xth_v, ↓xth_x, ↓jn_u, ↓xlen_u, ↓xaL_u, ↓xsL_u, ↓xbl_0, ↓xbl_1, eq_self, inb_n, inb_d, Sh_PI, Sh_PL, dk_PI, dk_PL, dr_PI, dr_PL, ↓reduceIte, Int32.reduceLE, Int32.reduceLT, Int32.reduceToNatClampNeg, Nat.reduceLT, Nat.reduceLeDiff, Nat.reduceEqDiff, Nat.reduceAdd, Nat.reduceMul, g0, hd.2.1, c_round hC hd, rnd_n hO (hr t), hst2, if_false]
          exact hn2 _ (by rw [← rchN_e])
theorem T_parts (hT : TInv b M A) : m_X10_parts M (b + 54) = some (Int32.ofNat (parS A (tP (aT A))).2, dwPI M (b + 54) 44 0) := by
  have hO := hT.1.ok.1
  have o1 := hO.1
  have h128 := p2_le o1
  obtain ⟨hT0, fz, z0⟩ := tinv_z hT
  have hs0 := hT0.1.1
  simp -implicitDefEqProofs only [m_X10_parts, ↓gp0_2, ↓gp0_3, ↓gp0_4, ↓gp0_5, ↓gp0_6, ↓gp0_7, ↓gp0_8, ↓gp0_9, ↓gp0_10, ↓gp0_18, ↓gp0_19, ↓gp0_20, ↓gp0_22, ↓gp23_43, ↓gp23_32, ↓gp23_33, ↓gp23_34, ↓gp23_35, ↓gp23_36, ↓gp29_43, ↓gp29_32, ↓gp29_33, ↓gp29_34, ↓gp29_35, ↓gp29_36, ↓gp54_53, ↓gp54_54, ↓gp54_55, ↓gp54_56, ↓gp54_57, ↓gp54_58, ↓gp54_59, ↓gp54_60, ↓gp54_61, ↓gp54_62, ↓gp54_65, ↓gp54_66, ↓gp54_67, ↓gp54_68, ↓gp54_69, ↓gp54_70, ↓gp54_71, ↓gp54_73, ↓gp54_74, ↓gp54_75, ↓gp54_76, ↓gp54_84, ↓gp54_85, ↓gp54_87, ↓gp54_88, ↓xr59, kr59, ↓xr67, kr67, ↓xr75, kr75, ↓xr82, kr82, ↓xr89, kr89, ↓xr102, kr102, ↓xr115, kr115, ↓xr276, kr276, ↓xr437, kr437, ↓xr444, kr444, ↓xr453, kr453, ↓xr536, kr536, ↓xr553, kr553, hs0, hw0, hs1, hw1, hs2, hw2, hs3, hw3, hs4, hw4, hs5, hw5, hs6, hw6, hs7, hw7, hs8, hw8, hs9, hw9, hs10, hw10, hs11, hw11, hs12, hw12, hs13, hw13, hs14, hw14, hs15, hw15, hs16, hw16, hs17, hw17, hs18, hw18, hs19, hw19, hs20, hw20, hs21, hw21, hs22, hw22, hs23, hw23, hs25, hw25, hs26, hw26, hs27, hw27, hs28, hw28, hs9b, hw9b, hs10b, hw10b, kd0, kd20, kd21, kd22, kd23, kd24, kd25, kd26, kd27, kd28, kd29, kd30, kd31, kd32, kd33, kd34, kd35, kd36, kd37, kd38, kd39, kd40, kd41, kd42, kd54, kd55, kd56, kd57, kd58, kd59, kd67, kd75, kd82, kd89, kd102, kd115, kd276, kd437, kd444, kd451, kd452, kd453, kd534, kd535, kd536, kd553, kd557, kd558, kd559, kd560, kd561, ↓xgI_u, ↓xpI_u, ↓xaI_u, ↓xsI_u, ↓xrk_u, ↓xrk0_u, ↓xob_v, ↓xmb_v, ↓xth_v, ↓xth_x, ↓jn_u, ↓xlen_u, ↓xaL_u, ↓xsL_u, ↓xbl_0, ↓xbl_1, eq_self, inb_n, inb_d, Sh_PI, Sh_PL, dk_PI, dk_PL, dr_PI, dr_PL, ↓reduceIte, Int32.reduceLE, Int32.reduceLT, Int32.reduceToNatClampNeg, Nat.reduceLT, Nat.reduceLeDiff, Nat.reduceEqDiff, Nat.reduceAdd, Nat.reduceMul, hT.1.1]
  generalize dwPI M (b + 54) 44 0 = M0 at *
  refine lpx (E := fun y => y = some (Int32.ofNat (parS A (tP (aT A))).2, M0)) (fun f i (s : Int32 × Int32) => L_X10_parts_11 M0 (b + 54) (fun (y2 : Int32) => some (y2, M0)) f s.2 s.1 (Int32.ofNat i)) (tP (aT A)) (fun i s => s = (Int32.ofNat (parS A i).1, Int32.ofNat (parS A i).2)) ?_ ?_ 1000000 0 (0, 0) (by omega) (by omega) rfl
  · intro f s e
    subst e
    simp -implicitDefEqProofs only [L_X10_parts_11, ↓gp0_2, ↓gp0_3, ↓gp0_4, ↓gp0_5, ↓gp0_6, ↓gp0_7, ↓gp0_8, ↓gp0_9, ↓gp0_10, ↓gp0_18, ↓gp0_19, ↓gp0_20, ↓gp0_22, ↓gp23_43, ↓gp23_32, ↓gp23_33, ↓gp23_34, ↓gp23_35, ↓gp23_36, ↓gp29_43, ↓gp29_32, ↓gp29_33, ↓gp29_34, ↓gp29_35, ↓gp29_36, ↓gp54_53, ↓gp54_54, ↓gp54_55, ↓gp54_56, ↓gp54_57, ↓gp54_58, ↓gp54_59, ↓gp54_60, ↓gp54_61, ↓gp54_62, ↓gp54_65, ↓gp54_66, ↓gp54_67, ↓gp54_68, ↓gp54_69, ↓gp54_70, ↓gp54_71, ↓gp54_73, ↓gp54_74, ↓gp54_75, ↓gp54_76, ↓gp54_84, ↓gp54_85, ↓gp54_87, ↓gp54_88, ↓xr59, kr59, ↓xr67, kr67, ↓xr75, kr75, ↓xr82, kr82, ↓xr89, kr89, ↓xr102, kr102, ↓xr115, kr115, ↓xr276, kr276, ↓xr437, kr437, ↓xr444, kr444, ↓xr453, kr453, ↓xr536, kr536, ↓xr553, kr553, hs0, hw0, hs1, hw1, hs2, hw2, hs3, hw3, hs4, hw4, hs5, hw5, hs6, hw6, hs7, hw7, hs8, hw8, hs9, hw9, hs10, hw10, hs11, hw11, hs12, hw12, hs13, hw13, hs14, hw14, hs15, hw15, hs16, hw16, hs17, hw17, hs18, hw18, hs19, hw19, hs20, hw20, hs21, hw21, hs22, hw22, hs23, hw23, hs25, hw25, hs26, hw26, hs27, hw27, hs28, hw28, hs9b, hw9b, hs10b, hw10b, kd0, kd20, kd21, kd22, kd23, kd24, kd25, kd26, kd27, kd28, kd29, kd30, kd31, kd32, kd33, kd34, kd35, kd36, kd37, kd38, kd39, kd40, kd41, kd42, kd54, kd55, kd56, kd57, kd58, kd59, kd67, kd75, kd82, kd89, kd102, kd115, kd276, kd437, kd444, kd451, kd452, kd453, kd534, kd535, kd536, kd553, kd557, kd558, kd559, kd560, kd561, ↓xgI_u, ↓xpI_u, ↓xaI_u, ↓xsI_u, ↓xrk_u, ↓xrk0_u, ↓xob_v, ↓xmb_v, ↓xth_v, ↓xth_x, ↓jn_u, ↓xlen_u, ↓xaL_u, ↓xsL_u, ↓xbl_0, ↓xbl_1, eq_self, inb_n, inb_d, Sh_PI, Sh_PL, dk_PI, dk_PL, dr_PI, dr_PL, ↓reduceIte, Int32.reduceLE, Int32.reduceLT, Int32.reduceToNatClampNeg, Nat.reduceLT, Nat.reduceLeDiff, Nat.reduceEqDiff, Nat.reduceAdd, Nat.reduceMul, hs0, hT0.1.2.1.1, i_geT, if_true]
  · intro f i s hi e hn
    obtain ⟨q1, q2, q3⟩ := par_q hO i (by omega)
    have es := parS_e A i
    have hr := rch_lt hO hi
    subst e
    simp -implicitDefEqProofs only [L_X10_parts_11, ↓gp0_2, ↓gp0_3, ↓gp0_4, ↓gp0_5, ↓gp0_6, ↓gp0_7, ↓gp0_8, ↓gp0_9, ↓gp0_10, ↓gp0_18, ↓gp0_19, ↓gp0_20, ↓gp0_22, ↓gp23_43, ↓gp23_32, ↓gp23_33, ↓gp23_34, ↓gp23_35, ↓gp23_36, ↓gp29_43, ↓gp29_32, ↓gp29_33, ↓gp29_34, ↓gp29_35, ↓gp29_36, ↓gp54_53, ↓gp54_54, ↓gp54_55, ↓gp54_56, ↓gp54_57, ↓gp54_58, ↓gp54_59, ↓gp54_60, ↓gp54_61, ↓gp54_62, ↓gp54_65, ↓gp54_66, ↓gp54_67, ↓gp54_68, ↓gp54_69, ↓gp54_70, ↓gp54_71, ↓gp54_73, ↓gp54_74, ↓gp54_75, ↓gp54_76, ↓gp54_84, ↓gp54_85, ↓gp54_87, ↓gp54_88, ↓xr59, kr59, ↓xr67, kr67, ↓xr75, kr75, ↓xr82, kr82, ↓xr89, kr89, ↓xr102, kr102, ↓xr115, kr115, ↓xr276, kr276, ↓xr437, kr437, ↓xr444, kr444, ↓xr453, kr453, ↓xr536, kr536, ↓xr553, kr553, hs0, hw0, hs1, hw1, hs2, hw2, hs3, hw3, hs4, hw4, hs5, hw5, hs6, hw6, hs7, hw7, hs8, hw8, hs9, hw9, hs10, hw10, hs11, hw11, hs12, hw12, hs13, hw13, hs14, hw14, hs15, hw15, hs16, hw16, hs17, hw17, hs18, hw18, hs19, hw19, hs20, hw20, hs21, hw21, hs22, hw22, hs23, hw23, hs25, hw25, hs26, hw26, hs27, hw27, hs28, hw28, hs9b, hw9b, hs10b, hw10b, kd0, kd20, kd21, kd22, kd23, kd24, kd25, kd26, kd27, kd28, kd29, kd30, kd31, kd32, kd33, kd34, kd35, kd36, kd37, kd38, kd39, kd40, kd41, kd42, kd54, kd55, kd56, kd57, kd58, kd59, kd67, kd75, kd82, kd89, kd102, kd115, kd276, kd437, kd444, kd451, kd452, kd453, kd534, kd535, kd536, kd553, kd557, kd558, kd559, kd560, kd561, ↓xgI_u, ↓xpI_u, ↓xaI_u, ↓xsI_u, ↓xrk_u, ↓xrk0_u, ↓xob_v, ↓xmb_v, ↓xth_v, ↓xth_x, ↓jn_u, ↓xlen_u, ↓xaL_u, ↓xsL_u, ↓xbl_0, ↓xbl_1, eq_self, inb_n, inb_d, Sh_PI, Sh_PL, dk_PI, dk_PL, dr_PI, dr_PL, ↓reduceIte, Int32.reduceLE, Int32.reduceLT, Int32.reduceToNatClampNeg, Nat.reduceLT, Nat.reduceLeDiff, Nat.reduceEqDiff, Nat.reduceAdd, Nat.reduceMul, hs0, hT0.1.2.1.1, i_geF hi (by omega), if_false, bit_n (show i < 7 by omega), i_succ]
    refine lpx (E := fun y => y = some (Int32.ofNat (parS A (tP (aT A))).2, M0)) (fun f' t (x : Int32) => L_X10_parts_29 M0 (b + 54) (Int32.ofNat (parS A i).2) (Int32.ofNat (parS A i).1) (Int32.ofNat i) (fun (y5 : Int32) => xob (m_X10_has (Int32.ofNat (parS A i).1) (Int32.ofNat i)) (fun v6 => if v6 = 0 then L_X10_parts_11 M0 (b + 54) (fun (y2 : Int32) => some (y2, M0)) f (Int32.ofNat ((parS A i).2 + 1)) (Int32.ofNat (parS A i).1 ||| y5) (Int32.ofNat (i + 1)) else L_X10_parts_11 M0 (b + 54) (fun (y2 : Int32) => some (y2, M0)) f (Int32.ofNat (parS A i).2 + 0) (Int32.ofNat (parS A i).1 ||| y5) (Int32.ofNat (i + 1)))) f' x (Int32.ofNat t)) (tP (aT A)) (fun t x => x = Int32.ofNat (rchN (aT A) i t)) ?_ ?_ 1000000 0 (Int32.ofNat (2 ^ i)) (by omega) (by omega) rfl
    · intro f' x e
      subst e
      by_cases hc : (parS A i).1.testBit i = true
      · rw [if_pos hc] at es
        have hh := (has_ofN (a := (parS A i).1) (by omega) (show i < 7 by omega)).mpr hc
        simp -implicitDefEqProofs only [L_X10_parts_29, m_X10_has, ↓gp0_2, ↓gp0_3, ↓gp0_4, ↓gp0_5, ↓gp0_6, ↓gp0_7, ↓gp0_8, ↓gp0_9, ↓gp0_10, ↓gp0_18, ↓gp0_19, ↓gp0_20, ↓gp0_22, ↓gp23_43, ↓gp23_32, ↓gp23_33, ↓gp23_34, ↓gp23_35, ↓gp23_36, ↓gp29_43, ↓gp29_32, ↓gp29_33, ↓gp29_34, ↓gp29_35, ↓gp29_36, ↓gp54_53, ↓gp54_54, ↓gp54_55, ↓gp54_56, ↓gp54_57, ↓gp54_58, ↓gp54_59, ↓gp54_60, ↓gp54_61, ↓gp54_62, ↓gp54_65, ↓gp54_66, ↓gp54_67, ↓gp54_68, ↓gp54_69, ↓gp54_70, ↓gp54_71, ↓gp54_73, ↓gp54_74, ↓gp54_75, ↓gp54_76, ↓gp54_84, ↓gp54_85, ↓gp54_87, ↓gp54_88, ↓xr59, kr59, ↓xr67, kr67, ↓xr75, kr75, ↓xr82, kr82, ↓xr89, kr89, ↓xr102, kr102, ↓xr115, kr115, ↓xr276, kr276, ↓xr437, kr437, ↓xr444, kr444, ↓xr453, kr453, ↓xr536, kr536, ↓xr553, kr553, hs0, hw0, hs1, hw1, hs2, hw2, hs3, hw3, hs4, hw4, hs5, hw5, hs6, hw6, hs7, hw7, hs8, hw8, hs9, hw9, hs10, hw10, hs11, hw11, hs12, hw12, hs13, hw13, hs14, hw14, hs15, hw15, hs16, hw16, hs17, hw17, hs18, hw18, hs19, hw19, hs20, hw20, hs21, hw21, hs22, hw22, hs23, hw23, hs25, hw25, hs26, hw26, hs27, hw27, hs28, hw28, hs9b, hw9b, hs10b, hw10b, kd0, kd20, kd21, kd22, kd23, kd24, kd25, kd26, kd27, kd28, kd29, kd30, kd31, kd32, kd33, kd34, kd35, kd36, kd37, kd38, kd39, kd40, kd41, kd42, kd54, kd55, kd56, kd57, kd58, kd59, kd67, kd75, kd82, kd89, kd102, kd115, kd276, kd437, kd444, kd451, kd452, kd453, kd534, kd535, kd536, kd553, kd557, kd558, kd559, kd560, kd561, ↓xgI_u, ↓xpI_u, ↓xaI_u, ↓xsI_u, ↓xrk_u, ↓xrk0_u, ↓xob_v, ↓xmb_v, ↓xth_v, ↓xth_x, ↓jn_u, ↓xlen_u, ↓xaL_u, ↓xsL_u, ↓xbl_0, ↓xbl_1, eq_self, inb_n, inb_d, Sh_PI, Sh_PL, dk_PI, dk_PL, dr_PI, dr_PL, ↓reduceIte, Int32.reduceLE, Int32.reduceLT, Int32.reduceToNatClampNeg, Nat.reduceLT, Nat.reduceLeDiff, Nat.reduceEqDiff, Nat.reduceAdd, Nat.reduceMul, hs0, hT0.1.2.1.1, i_geT, if_true, hh, e10, if_false, i_or, sub_o (rch_in q2 hc (tP (aT A))), Int32.add_zero]
        exact hn (_, _) (by rw [es]; rfl)
      · rw [if_neg hc] at es
        have hh : ¬ (Int32.ofNat (parS A i).1 >>> (Int32.ofNat i &&& 31)) &&& 1 = 1 := fun z => hc ((has_ofN (by omega) (show i < 7 by omega)).mp z)
        simp -implicitDefEqProofs only [L_X10_parts_29, m_X10_has, ↓gp0_2, ↓gp0_3, ↓gp0_4, ↓gp0_5, ↓gp0_6, ↓gp0_7, ↓gp0_8, ↓gp0_9, ↓gp0_10, ↓gp0_18, ↓gp0_19, ↓gp0_20, ↓gp0_22, ↓gp23_43, ↓gp23_32, ↓gp23_33, ↓gp23_34, ↓gp23_35, ↓gp23_36, ↓gp29_43, ↓gp29_32, ↓gp29_33, ↓gp29_34, ↓gp29_35, ↓gp29_36, ↓gp54_53, ↓gp54_54, ↓gp54_55, ↓gp54_56, ↓gp54_57, ↓gp54_58, ↓gp54_59, ↓gp54_60, ↓gp54_61, ↓gp54_62, ↓gp54_65, ↓gp54_66, ↓gp54_67, ↓gp54_68, ↓gp54_69, ↓gp54_70, ↓gp54_71, ↓gp54_73, ↓gp54_74, ↓gp54_75, ↓gp54_76, ↓gp54_84, ↓gp54_85, ↓gp54_87, ↓gp54_88, ↓xr59, kr59, ↓xr67, kr67, ↓xr75, kr75, ↓xr82, kr82, ↓xr89, kr89, ↓xr102, kr102, ↓xr115, kr115, ↓xr276, kr276, ↓xr437, kr437, ↓xr444, kr444, ↓xr453, kr453, ↓xr536, kr536, ↓xr553, kr553, hs0, hw0, hs1, hw1, hs2, hw2, hs3, hw3, hs4, hw4, hs5, hw5, hs6, hw6, hs7, hw7, hs8, hw8, hs9, hw9, hs10, hw10, hs11, hw11, hs12, hw12, hs13, hw13, hs14, hw14, hs15, hw15, hs16, hw16, hs17, hw17, hs18, hw18, hs19, hw19, hs20, hw20, hs21, hw21, hs22, hw22, hs23, hw23, hs25, hw25, hs26, hw26, hs27, hw27, hs28, hw28, hs9b, hw9b, hs10b, hw10b, kd0, kd20, kd21, kd22, kd23, kd24, kd25, kd26, kd27, kd28, kd29, kd30, kd31, kd32, kd33, kd34, kd35, kd36, kd37, kd38, kd39, kd40, kd41, kd42, kd54, kd55, kd56, kd57, kd58, kd59, kd67, kd75, kd82, kd89, kd102, kd115, kd276, kd437, kd444, kd451, kd452, kd453, kd534, kd535, kd536, kd553, kd557, kd558, kd559, kd560, kd561, ↓xgI_u, ↓xpI_u, ↓xaI_u, ↓xsI_u, ↓xrk_u, ↓xrk0_u, ↓xob_v, ↓xmb_v, ↓xth_v, ↓xth_x, ↓jn_u, ↓xlen_u, ↓xaL_u, ↓xsL_u, ↓xbl_0, ↓xbl_1, eq_self, inb_n, inb_d, Sh_PI, Sh_PL, dk_PI, dk_PL, dr_PI, dr_PL, ↓reduceIte, Int32.reduceLE, Int32.reduceLT, Int32.reduceToNatClampNeg, Nat.reduceLT, Nat.reduceLeDiff, Nat.reduceEqDiff, Nat.reduceAdd, Nat.reduceMul, hs0, hT0.1.2.1.1, i_geT, if_true, hh, if_false, i_or]
        exact hn (_, _) (by rw [es]; rfl)
    · intro f' t x ht e hn2
      subst e
      simp -implicitDefEqProofs only [L_X10_parts_29, ↓gp0_2, ↓gp0_3, ↓gp0_4, ↓gp0_5, ↓gp0_6, ↓gp0_7, ↓gp0_8, ↓gp0_9, ↓gp0_10, ↓gp0_18, ↓gp0_19, ↓gp0_20, ↓gp0_22, ↓gp23_43, ↓gp23_32, ↓gp23_33, ↓gp23_34, ↓gp23_35, ↓gp23_36, ↓gp29_43, ↓gp29_32, ↓gp29_33, ↓gp29_34, ↓gp29_35, ↓gp29_36, ↓gp54_53, ↓gp54_54, ↓gp54_55, ↓gp54_56, ↓gp54_57, ↓gp54_58, ↓gp54_59, ↓gp54_60, ↓gp54_61, ↓gp54_62, ↓gp54_65, ↓gp54_66, ↓gp54_67, ↓gp54_68, ↓gp54_69, ↓gp54_70, ↓gp54_71, ↓gp54_73, ↓gp54_74, ↓gp54_75, ↓gp54_76, ↓gp54_84, ↓gp54_85, ↓gp54_87, ↓gp54_88, ↓xr59, kr59, ↓xr67, kr67, ↓xr75, kr75, ↓xr82, kr82, ↓xr89, kr89, ↓xr102, kr102, ↓xr115, kr115, ↓xr276, kr276, ↓xr437, kr437, ↓xr444, kr444, ↓xr453, kr453, ↓xr536, kr536, ↓xr553, kr553, hs0, hw0, hs1, hw1, hs2, hw2, hs3, hw3, hs4, hw4, hs5, hw5, hs6, hw6, hs7, hw7, hs8, hw8, hs9, hw9, hs10, hw10, hs11, hw11, hs12, hw12, hs13, hw13, hs14, hw14, hs15, hw15, hs16, hw16, hs17, hw17, hs18, hw18, hs19, hw19, hs20, hw20, hs21, hw21, hs22, hw22, hs23, hw23, hs25, hw25, hs26, hw26, hs27, hw27, hs28, hw28, hs9b, hw9b, hs10b, hw10b, kd0, kd20, kd21, kd22, kd23, kd24, kd25, kd26, kd27, kd28, kd29, kd30, kd31, kd32, kd33, kd34, kd35, kd36, kd37, kd38, kd39, kd40, kd41, kd42, kd54, kd55, kd56, kd57, kd58, kd59, kd67, kd75, kd82, kd89, kd102, kd115, kd276, kd437, kd444, kd451, kd452, kd453, kd534, kd535, kd536, kd553, kd557, kd558, kd559, kd560, kd561, ↓xgI_u, ↓xpI_u, ↓xaI_u, ↓xsI_u, ↓xrk_u, ↓xrk0_u, ↓xob_v, ↓xmb_v, ↓xth_v, ↓xth_x, ↓jn_u, ↓xlen_u, ↓xaL_u, ↓xsL_u, ↓xbl_0, ↓xbl_1, eq_self, inb_n, inb_d, Sh_PI, Sh_PL, dk_PI, dk_PL, dr_PI, dr_PL, ↓reduceIte, Int32.reduceLE, Int32.reduceLT, Int32.reduceToNatClampNeg, Nat.reduceLT, Nat.reduceLeDiff, Nat.reduceEqDiff, Nat.reduceAdd, Nat.reduceMul, hs0, hT0.1.2.1.1, i_geF ht (by omega), if_false, t_further hT0, rnd_n hO (hr t), i_succ]
      exact hn2 _ (by rw [← rchN_e])
theorem call_parts (hC : CInv b w M A) (hT : TInv b M A) : agreeP b M (fun M => m_X1_parts M b) (fun M => m_X10_parts M (b + 54)) :=
  agreeP_mk (A' := A) hC (C_parts hC) (t_okp (g := fun M => m_X10_parts M (b + 54)) hT ⟨_, T_parts hT, fr.refl _⟩)
end CALL
