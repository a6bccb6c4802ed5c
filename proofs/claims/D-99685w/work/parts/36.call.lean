theorem clamp_b (v : Int32) : ∃ n, n ≤ 40 ∧ clampS v = Int32.ofNat n := by
  have h : inV (clampS v) 0 (Int32.ofNat 40) = 1 := by
    unfold clampS lessS moreS inV
    simp only [Int32.lt_iff_toInt_lt, Int32.le_iff_toInt_le, show (0 : Int32).toInt = 0 from rfl, show (40 : Int32).toInt = 40 from rfl, show (Int32.ofNat 40).toInt = 40 from rfl]
    by_cases h1 : 0 ≤ v.toInt
    · rw [if_pos h1]
      by_cases h2 : v.toInt ≤ 40
      · rw [if_pos h2, if_neg (by omega), if_neg (by omega)]
      · rw [if_neg h2]; rfl
    · rw [if_neg h1]; rfl
  obtain ⟨k, hk, e⟩ := inV_n (n := 40) (by omega) h
  exact ⟨k, by omega, e⟩
theorem lgh_b (T : dvT) (lw : (Nat → Int32) → Int32) (r : Nat → Int32) (j p : Nat) : ∃ n, n ≤ 40 ∧ lghS T lw r j p = Int32.ofNat n := clamp_b _
theorem nn_m1 {n : Nat} (h : n < 2147483648) : (Int32.ofNat n = -1) = False := by
  apply eq_false
  intro e
  have := congrArg Int32.toInt e
  rw [i_toInt h, show (-1 : Int32).toInt = -1 from rfl] at this
  omega
theorem m1_lt {n : Nat} (h : n < 2147483648) : ((-1 : Int32) < Int32.ofNat n) = True := by
  apply eq_true
  rw [Int32.lt_iff_toInt_lt, i_toInt h, show (-1 : Int32).toInt = -1 from rfl]
  omega
section CALL
variable {b : Nat} {w : Nat → Nat} {M : dwSt} {A : dvA}
/-! solemn -/
def solS (A : dvA) (j : Nat) : Int32 := itr (fun p x => x ||| (if lghS (aT A) (aLw A) (aNow A) j p = 0 then bI (Int32.ofNat p) else 0)) 0 (tP (aT A))
theorem C_solemn {j : Nat} (hC : CInv b w M A) (hj : j < tJ (aT A)) : ∃ M1, m_X1_solemn M b (Int32.ofNat j) = some (.inl (solS A j), M1) ∧ fr (cSc b) nz 0 0 M M1 := by
  have o1 := hC.1.ok.1.1
  simp -implicitDefEqProofs only [m_X1_solemn, ↓xgI_u, ↓xpI_u, ↓xaI_u, ↓xsI_u, ↓xrk_u, ↓xrk0_u, ↓xob_v, ↓xmb_v, ↓xth_v, ↓xth_x, ↓jn_u, ↓xlen_u, ↓xaL_u, ↓xsL_u, ↓xbl_0, ↓xbl_1, eq_self, inb_n, inb_d, Sh_PI, Sh_PL, dk_PI, dk_PL, dr_PI, dr_PL, ↓reduceIte, Int32.reduceLE, Int32.reduceLT, Int32.reduceToNatClampNeg, Nat.reduceLT, Nat.reduceLeDiff, Nat.reduceEqDiff, Nat.reduceAdd, Nat.reduceMul, kd0 hC.1.1, c_needJT hC hj]
  refine lpx (E := fun x => ∃ M1, x = some (.inl (solS A j), M1) ∧ fr (cSc b) nz 0 0 M M1) (fun f i (s : Int32 × dwSt) => L_X1_solemn_9 b (Int32.ofNat j) (fun (y3 : Int32) (M4 : dwSt) => (some (.inl y3, M4) : dwR9 Int32)) f s.1 (Int32.ofNat i) s.2) (tP (aT A)) (fun i s => s.1 = itr (fun p x => x ||| (if lghS (aT A) (aLw A) (aNow A) j p = 0 then bI (Int32.ofNat p) else 0)) 0 i ∧ fr (cSc b) nz 0 0 M s.2) ?_ ?_ 1000000 0 (0, M) (by omega) (by omega) ⟨rfl, fr.refl M⟩
  · intro f ⟨x, M1⟩ ⟨e, hf⟩
    have c1 := cinv_s hC hf
    refine ⟨M1, ?_, hf⟩
    show L_X1_solemn_9 b (Int32.ofNat j) _ (f + 1) x _ M1 = _
    simp -implicitDefEqProofs only [L_X1_solemn_9, ↓xgI_u, ↓xpI_u, ↓xaI_u, ↓xsI_u, ↓xrk_u, ↓xrk0_u, ↓xob_v, ↓xmb_v, ↓xth_v, ↓xth_x, ↓jn_u, ↓xlen_u, ↓xaL_u, ↓xsL_u, ↓xbl_0, ↓xbl_1, eq_self, inb_n, inb_d, Sh_PI, Sh_PL, dk_PI, dk_PL, dr_PI, dr_PL, ↓reduceIte, Int32.reduceLE, Int32.reduceLT, Int32.reduceToNatClampNeg, Nat.reduceLT, Nat.reduceLeDiff, Nat.reduceEqDiff, Nat.reduceAdd, Nat.reduceMul, kd0 c1.1.1, c_persons c1.1.1 c1.1.2.1, i_geT, if_true]
    rw [show x = _ from e]; rfl
  · intro f i ⟨x, M1⟩ hi ⟨e, hf⟩ hn
    have c1 := cinv_s hC hf
    obtain ⟨M2, u, f2⟩ := c_laugh c1.e c1.1.2.2.2.2.1 hj hi
    have hf2 := hf.t0 (f2.mono (S' := cSc b) (fun a k q => Or.inr (Or.inl q)) (fun _ _ q => q) (Nat.le_refl _) (Nat.le_refl _))
    show ∃ M3, L_X1_solemn_9 b (Int32.ofNat j) _ (f + 1) x _ M1 = _ ∧ _
    have e' : x = _ := e
    simp -implicitDefEqProofs only [L_X1_solemn_9, ↓gp0_2, ↓gp0_3, ↓gp0_4, ↓gp0_5, ↓gp0_6, ↓gp0_7, ↓gp0_8, ↓gp0_9, ↓gp0_10, ↓gp0_18, ↓gp0_19, ↓gp0_20, ↓gp0_22, ↓gp23_43, ↓gp23_32, ↓gp23_33, ↓gp23_34, ↓gp23_35, ↓gp23_36, ↓gp29_43, ↓gp29_32, ↓gp29_33, ↓gp29_34, ↓gp29_35, ↓gp29_36, ↓gp54_53, ↓gp54_54, ↓gp54_55, ↓gp54_56, ↓gp54_57, ↓gp54_58, ↓gp54_59, ↓gp54_60, ↓gp54_61, ↓gp54_62, ↓gp54_65, ↓gp54_66, ↓gp54_67, ↓gp54_68, ↓gp54_69, ↓gp54_70, ↓gp54_71, ↓gp54_73, ↓gp54_74, ↓gp54_75, ↓gp54_76, ↓gp54_84, ↓gp54_85, ↓gp54_87, ↓gp54_88, ↓xr59, kr59, ↓xr67, kr67, ↓xr75, kr75, ↓xr82, kr82, ↓xr89, kr89, ↓xr102, kr102, ↓xr115, kr115, ↓xr276, kr276, ↓xr437, kr437, ↓xr444, kr444, ↓xr453, kr453, ↓xr536, kr536, ↓xr553, kr553, hs0, hw0, hs1, hw1, hs2, hw2, hs3, hw3, hs4, hw4, hs5, hw5, hs6, hw6, hs7, hw7, hs8, hw8, hs9, hw9, hs10, hw10, hs11, hw11, hs12, hw12, hs13, hw13, hs14, hw14, hs15, hw15, hs16, hw16, hs17, hw17, hs18, hw18, hs19, hw19, hs20, hw20, hs21, hw21, hs22, hw22, hs23, hw23, hs25, hw25, hs26, hw26, hs27, hw27, hs28, hw28, hs9b, hw9b, hs10b, hw10b, kd0, kd20, kd21, kd22, kd23, kd24, kd25, kd26, kd27, kd28, kd29, kd30, kd31, kd32, kd33, kd34, kd35, kd36, kd37, kd38, kd39, kd40, kd41, kd42, kd54, kd55, kd56, kd57, kd58, kd59, kd67, kd75, kd82, kd89, kd102, kd115, kd276, kd437, kd444, kd451, kd452, kd453, kd534, kd535, kd536, kd553, kd557, kd558, kd559, kd560, kd561, ↓xgI_u, ↓xpI_u, ↓xaI_u, ↓xsI_u, ↓xrk_u, ↓xrk0_u, ↓xob_v, ↓xmb_v, ↓xth_v, ↓xth_x, ↓jn_u, ↓xlen_u, ↓xaL_u, ↓xsL_u, ↓xbl_0, ↓xbl_1, eq_self, inb_n, inb_d, Sh_PI, Sh_PL, dk_PI, dk_PL, dr_PI, dr_PL, ↓reduceIte, Int32.reduceLE, Int32.reduceLT, Int32.reduceToNatClampNeg, Nat.reduceLT, Nat.reduceLeDiff, Nat.reduceEqDiff, Nat.reduceAdd, Nat.reduceMul, c1.1.1, c_persons c1.1.1 c1.1.2.1, i_geF hi (by omega), if_false, u, i_succ]
    by_cases hc : lghS (aT A) (aLw A) (aNow A) j i = 0
    · simp only [hc, if_true]
      refine hn (_, M2) ⟨?_, hf2⟩
      rw [← itr_s, ← e', if_pos hc]; rfl
    · simp only [hc, if_false]
      refine hn (_, M2) ⟨?_, hf2⟩
      rw [← itr_s, ← e', if_neg hc]
theorem T_solemn {j : Nat} (hT : TInv b M A) (hj : j < tJ (aT A)) : ∃ M2, m_X10_solemn M (b + 54) (Int32.ofNat j) = some (solS A j, M2) ∧ fr (tSc b) nz 0 0 (dwPI M (b + 54) 44 0) M2 := by
  obtain ⟨hT0, f0, z0⟩ := tinv_z hT
  have o1 := hT.1.ok.1.1
  have o2 := hT.1.ok.1.2.1
  simp -implicitDefEqProofs only [m_X10_solemn, ↓gp0_2, ↓gp0_3, ↓gp0_4, ↓gp0_5, ↓gp0_6, ↓gp0_7, ↓gp0_8, ↓gp0_9, ↓gp0_10, ↓gp0_18, ↓gp0_19, ↓gp0_20, ↓gp0_22, ↓gp23_43, ↓gp23_32, ↓gp23_33, ↓gp23_34, ↓gp23_35, ↓gp23_36, ↓gp29_43, ↓gp29_32, ↓gp29_33, ↓gp29_34, ↓gp29_35, ↓gp29_36, ↓gp54_53, ↓gp54_54, ↓gp54_55, ↓gp54_56, ↓gp54_57, ↓gp54_58, ↓gp54_59, ↓gp54_60, ↓gp54_61, ↓gp54_62, ↓gp54_65, ↓gp54_66, ↓gp54_67, ↓gp54_68, ↓gp54_69, ↓gp54_70, ↓gp54_71, ↓gp54_73, ↓gp54_74, ↓gp54_75, ↓gp54_76, ↓gp54_84, ↓gp54_85, ↓gp54_87, ↓gp54_88, ↓xr59, kr59, ↓xr67, kr67, ↓xr75, kr75, ↓xr82, kr82, ↓xr89, kr89, ↓xr102, kr102, ↓xr115, kr115, ↓xr276, kr276, ↓xr437, kr437, ↓xr444, kr444, ↓xr453, kr453, ↓xr536, kr536, ↓xr553, kr553, hs0, hw0, hs1, hw1, hs2, hw2, hs3, hw3, hs4, hw4, hs5, hw5, hs6, hw6, hs7, hw7, hs8, hw8, hs9, hw9, hs10, hw10, hs11, hw11, hs12, hw12, hs13, hw13, hs14, hw14, hs15, hw15, hs16, hw16, hs17, hw17, hs18, hw18, hs19, hw19, hs20, hw20, hs21, hw21, hs22, hw22, hs23, hw23, hs25, hw25, hs26, hw26, hs27, hw27, hs28, hw28, hs9b, hw9b, hs10b, hw10b, kd0, kd20, kd21, kd22, kd23, kd24, kd25, kd26, kd27, kd28, kd29, kd30, kd31, kd32, kd33, kd34, kd35, kd36, kd37, kd38, kd39, kd40, kd41, kd42, kd54, kd55, kd56, kd57, kd58, kd59, kd67, kd75, kd82, kd89, kd102, kd115, kd276, kd437, kd444, kd451, kd452, kd453, kd534, kd535, kd536, kd553, kd557, kd558, kd559, kd560, kd561, ↓xgI_u, ↓xpI_u, ↓xaI_u, ↓xsI_u, ↓xrk_u, ↓xrk0_u, ↓xob_v, ↓xmb_v, ↓xth_v, ↓xth_x, ↓jn_u, ↓xlen_u, ↓xaL_u, ↓xsL_u, ↓xbl_0, ↓xbl_1, eq_self, inb_n, inb_d, Sh_PI, Sh_PL, dk_PI, dk_PL, dr_PI, dr_PL, ↓reduceIte, Int32.reduceLE, Int32.reduceLT, Int32.reduceToNatClampNeg, Nat.reduceLT, Nat.reduceLeDiff, Nat.reduceEqDiff, Nat.reduceAdd, Nat.reduceMul, hT.1.1, t_isJ hT0.1.1 hT0.1.2.1, t_inT hj (by omega), e10, t_bad0 hT0.1.1 z0]
  refine lpx (E := fun x => ∃ M2, x = some (solS A j, M2) ∧ fr (tSc b) nz 0 0 (dwPI M (b + 54) 44 0) M2) (fun f i (s : Int32 × dwSt) => L_X10_solemn_33 (b + 54) (Int32.ofNat j) (fun (y7 : Int32) (M8 : dwSt) => some (y7, M8)) f s.1 (Int32.ofNat i) s.2) (tP (aT A)) (fun i s => s.1 = itr (fun p x => x ||| (if lghS (aT A) (aLw A) (aNow A) j p = 0 then bI (Int32.ofNat p) else 0)) 0 i ∧ fr (tSc b) nz 0 0 (dwPI M (b + 54) 44 0) s.2) ?_ ?_ 1000000 0 (0, dwPI M (b + 54) 44 0) (by omega) (by omega) ⟨rfl, fr.refl _⟩
  · intro f ⟨x, M1⟩ ⟨e, hf⟩
    have c1 := tinv_s hT0 hf
    refine ⟨M1, ?_, hf⟩
    show L_X10_solemn_33 (b + 54) (Int32.ofNat j) _ (f + 1) x _ M1 = _
    simp -implicitDefEqProofs only [L_X10_solemn_33, ↓gp0_2, ↓gp0_3, ↓gp0_4, ↓gp0_5, ↓gp0_6, ↓gp0_7, ↓gp0_8, ↓gp0_9, ↓gp0_10, ↓gp0_18, ↓gp0_19, ↓gp0_20, ↓gp0_22, ↓gp23_43, ↓gp23_32, ↓gp23_33, ↓gp23_34, ↓gp23_35, ↓gp23_36, ↓gp29_43, ↓gp29_32, ↓gp29_33, ↓gp29_34, ↓gp29_35, ↓gp29_36, ↓gp54_53, ↓gp54_54, ↓gp54_55, ↓gp54_56, ↓gp54_57, ↓gp54_58, ↓gp54_59, ↓gp54_60, ↓gp54_61, ↓gp54_62, ↓gp54_65, ↓gp54_66, ↓gp54_67, ↓gp54_68, ↓gp54_69, ↓gp54_70, ↓gp54_71, ↓gp54_73, ↓gp54_74, ↓gp54_75, ↓gp54_76, ↓gp54_84, ↓gp54_85, ↓gp54_87, ↓gp54_88, ↓xr59, kr59, ↓xr67, kr67, ↓xr75, kr75, ↓xr82, kr82, ↓xr89, kr89, ↓xr102, kr102, ↓xr115, kr115, ↓xr276, kr276, ↓xr437, kr437, ↓xr444, kr444, ↓xr453, kr453, ↓xr536, kr536, ↓xr553, kr553, hs0, hw0, hs1, hw1, hs2, hw2, hs3, hw3, hs4, hw4, hs5, hw5, hs6, hw6, hs7, hw7, hs8, hw8, hs9, hw9, hs10, hw10, hs11, hw11, hs12, hw12, hs13, hw13, hs14, hw14, hs15, hw15, hs16, hw16, hs17, hw17, hs18, hw18, hs19, hw19, hs20, hw20, hs21, hw21, hs22, hw22, hs23, hw23, hs25, hw25, hs26, hw26, hs27, hw27, hs28, hw28, hs9b, hw9b, hs10b, hw10b, kd0, kd20, kd21, kd22, kd23, kd24, kd25, kd26, kd27, kd28, kd29, kd30, kd31, kd32, kd33, kd34, kd35, kd36, kd37, kd38, kd39, kd40, kd41, kd42, kd54, kd55, kd56, kd57, kd58, kd59, kd67, kd75, kd82, kd89, kd102, kd115, kd276, kd437, kd444, kd451, kd452, kd453, kd534, kd535, kd536, kd553, kd557, kd558, kd559, kd560, kd561, ↓xgI_u, ↓xpI_u, ↓xaI_u, ↓xsI_u, ↓xrk_u, ↓xrk0_u, ↓xob_v, ↓xmb_v, ↓xth_v, ↓xth_x, ↓jn_u, ↓xlen_u, ↓xaL_u, ↓xsL_u, ↓xbl_0, ↓xbl_1, eq_self, inb_n, inb_d, Sh_PI, Sh_PL, dk_PI, dk_PL, dr_PI, dr_PL, ↓reduceIte, Int32.reduceLE, Int32.reduceLT, Int32.reduceToNatClampNeg, Nat.reduceLT, Nat.reduceLeDiff, Nat.reduceEqDiff, Nat.reduceAdd, Nat.reduceMul, c1.1.1, c1.1.2.1.1, i_geT, if_true]
    rw [show x = _ from e]; rfl
  · intro f i ⟨x, M1⟩ hi ⟨e, hf⟩ hn
    have c1 := tinv_s hT0 hf
    obtain ⟨M2, u, f2⟩ := t_laughOf c1.e (kd534 c1.1.1) hj hi
    rw [c1.1.2.2.2.2.1] at u
    have hf2 := hf.t0 (f2.mono (S' := tSc b) (fun a k q => by unfold sKn at q; unfold tSc; omega) (fun _ _ q => q) (Nat.le_refl _) (Nat.le_refl _))
    show ∃ M3, L_X10_solemn_33 (b + 54) (Int32.ofNat j) _ (f + 1) x _ M1 = _ ∧ _
    have e' : x = _ := e
    simp -implicitDefEqProofs only [L_X10_solemn_33, ↓gp0_2, ↓gp0_3, ↓gp0_4, ↓gp0_5, ↓gp0_6, ↓gp0_7, ↓gp0_8, ↓gp0_9, ↓gp0_10, ↓gp0_18, ↓gp0_19, ↓gp0_20, ↓gp0_22, ↓gp23_43, ↓gp23_32, ↓gp23_33, ↓gp23_34, ↓gp23_35, ↓gp23_36, ↓gp29_43, ↓gp29_32, ↓gp29_33, ↓gp29_34, ↓gp29_35, ↓gp29_36, ↓gp54_53, ↓gp54_54, ↓gp54_55, ↓gp54_56, ↓gp54_57, ↓gp54_58, ↓gp54_59, ↓gp54_60, ↓gp54_61, ↓gp54_62, ↓gp54_65, ↓gp54_66, ↓gp54_67, ↓gp54_68, ↓gp54_69, ↓gp54_70, ↓gp54_71, ↓gp54_73, ↓gp54_74, ↓gp54_75, ↓gp54_76, ↓gp54_84, ↓gp54_85, ↓gp54_87, ↓gp54_88, ↓xr59, kr59, ↓xr67, kr67, ↓xr75, kr75, ↓xr82, kr82, ↓xr89, kr89, ↓xr102, kr102, ↓xr115, kr115, ↓xr276, kr276, ↓xr437, kr437, ↓xr444, kr444, ↓xr453, kr453, ↓xr536, kr536, ↓xr553, kr553, hs0, hw0, hs1, hw1, hs2, hw2, hs3, hw3, hs4, hw4, hs5, hw5, hs6, hw6, hs7, hw7, hs8, hw8, hs9, hw9, hs10, hw10, hs11, hw11, hs12, hw12, hs13, hw13, hs14, hw14, hs15, hw15, hs16, hw16, hs17, hw17, hs18, hw18, hs19, hw19, hs20, hw20, hs21, hw21, hs22, hw22, hs23, hw23, hs25, hw25, hs26, hw26, hs27, hw27, hs28, hw28, hs9b, hw9b, hs10b, hw10b, kd0, kd20, kd21, kd22, kd23, kd24, kd25, kd26, kd27, kd28, kd29, kd30, kd31, kd32, kd33, kd34, kd35, kd36, kd37, kd38, kd39, kd40, kd41, kd42, kd54, kd55, kd56, kd57, kd58, kd59, kd67, kd75, kd82, kd89, kd102, kd115, kd276, kd437, kd444, kd451, kd452, kd453, kd534, kd535, kd536, kd553, kd557, kd558, kd559, kd560, kd561, ↓xgI_u, ↓xpI_u, ↓xaI_u, ↓xsI_u, ↓xrk_u, ↓xrk0_u, ↓xob_v, ↓xmb_v, ↓xth_v, ↓xth_x, ↓jn_u, ↓xlen_u, ↓xaL_u, ↓xsL_u, ↓xbl_0, ↓xbl_1, eq_self, inb_n, inb_d, Sh_PI, Sh_PL, dk_PI, dk_PL, dr_PI, dr_PL, ↓reduceIte, Int32.reduceLE, Int32.reduceLT, Int32.reduceToNatClampNeg, Nat.reduceLT, Nat.reduceLeDiff, Nat.reduceEqDiff, Nat.reduceAdd, Nat.reduceMul, c1.1.1, c1.1.2.1.1, i_geF hi (by omega), if_false, u, i_succ]
    by_cases hc : lghS (aT A) (aLw A) (aNow A) j i = 0
    · simp only [hc, if_true]
      refine hn (_, M2) ⟨?_, hf2⟩
      rw [← itr_s, ← e', if_pos hc]; rfl
    · simp only [hc, if_false]
      refine hn (_, M2) ⟨?_, hf2⟩
      rw [← itr_s, ← e', if_neg hc]
/-! likes: the best joke, how much one laughs at it -/
def likS (A : dvA) (p n : Nat) : Int32 × Int32 := itr (fun j s => if s.2 < lghS (aT A) (aLw A) (aNow A) j p then (Int32.ofNat j, lghS (aT A) (aLw A) (aNow A) j p) else s) (-1, -1) n
def likV (A : dvA) (p : Nat) (y : Int32) : Int32 := if y = 0 then (likS A p (tJ (aT A))).1 else (likS A p (tJ (aT A))).2
theorem lik_c (A : dvA) (p : Nat) : ∀ n, likS A p n = (-1, -1) ∨ ∃ k, k < n ∧ likS A p n = (Int32.ofNat k, lghS (aT A) (aLw A) (aNow A) k p) := by
  intro n
  induction n with
  | zero => exact Or.inl rfl
  | succ n ih =>
    have e : likS A p (n + 1) = if (likS A p n).2 < lghS (aT A) (aLw A) (aNow A) n p then (Int32.ofNat n, lghS (aT A) (aLw A) (aNow A) n p) else likS A p n := rfl
    by_cases h : (likS A p n).2 < lghS (aT A) (aLw A) (aNow A) n p
    · rw [e, if_pos h]; exact Or.inr ⟨n, by omega, rfl⟩
    · rw [e, if_neg h]
      rcases ih with ih | ⟨k, hk, ih⟩
      · exact Or.inl ih
      · exact Or.inr ⟨k, by omega, ih⟩
theorem C_likes {p : Nat} {y : Int32} (hC : CInv b w M A) (hp : p < tP (aT A)) (hy : inV y 0 1 = 1) : ∃ M1, m_X1_likes M b (Int32.ofNat p) y = some (.inl (likV A p y), M1) ∧ fr (cSc b) nz 0 0 M M1 := by
  have o1 := hC.1.ok.1.2.1
  simp -implicitDefEqProofs only [m_X1_likes, ↓xgI_u, ↓xpI_u, ↓xaI_u, ↓xsI_u, ↓xrk_u, ↓xrk0_u, ↓xob_v, ↓xmb_v, ↓xth_v, ↓xth_x, ↓jn_u, ↓xlen_u, ↓xaL_u, ↓xsL_u, ↓xbl_0, ↓xbl_1, eq_self, inb_n, inb_d, Sh_PI, Sh_PL, dk_PI, dk_PL, dr_PI, dr_PL, ↓reduceIte, Int32.reduceLE, Int32.reduceLT, Int32.reduceToNatClampNeg, Nat.reduceLT, Nat.reduceLeDiff, Nat.reduceEqDiff, Nat.reduceAdd, Nat.reduceMul, kd0 hC.1.1, c_needPT hC hp, c_part, c_need1 hy]
  refine lpx (E := fun x => ∃ M1, x = some (.inl (likV A p y), M1) ∧ fr (cSc b) nz 0 0 M M1) (fun f i (s : Int32 × dwSt) => L_X1_likes_18 b (Int32.ofNat p) y (fun (y6 : Int32) (M7 : dwSt) => (if y = 0 then some (.inl y6, M7) else if y6 = (-1) then some (.inl y6, M7) else xgR M7 5 b (fun v8 => xrk M7 v8 2 (xmb (m_X9_laugh M7 v8 y6 (Int32.ofNat p)) (fun v9 M10 => some (.inl v9, M10)))) : dwR9 Int32)) f s.1 (Int32.ofNat i) s.2) (tJ (aT A)) (fun i s => s.1 = (likS A p i).1 ∧ fr (cSc b) nz 0 0 M s.2) ?_ ?_ 1000000 0 (-1, M) (by omega) (by omega) ⟨rfl, fr.refl M⟩
  · intro f ⟨x, M1⟩ ⟨e, hf⟩
    have c1 := cinv_s hC hf
    have e' : x = _ := e
    show ∃ M3, L_X1_likes_18 b (Int32.ofNat p) y _ (f + 1) x _ M1 = _ ∧ _
    simp -implicitDefEqProofs only [L_X1_likes_18, ↓xgI_u, ↓xpI_u, ↓xaI_u, ↓xsI_u, ↓xrk_u, ↓xrk0_u, ↓xob_v, ↓xmb_v, ↓xth_v, ↓xth_x, ↓jn_u, ↓xlen_u, ↓xaL_u, ↓xsL_u, ↓xbl_0, ↓xbl_1, eq_self, inb_n, inb_d, Sh_PI, Sh_PL, dk_PI, dk_PL, dr_PI, dr_PL, ↓reduceIte, Int32.reduceLE, Int32.reduceLT, Int32.reduceToNatClampNeg, Nat.reduceLT, Nat.reduceLeDiff, Nat.reduceEqDiff, Nat.reduceAdd, Nat.reduceMul, kd0 c1.1.1, c_jokes c1.1.1 c1.1.2.1, i_geT, if_true]
    unfold likV
    by_cases hy0 : y = 0
    · simp only [hy0, if_true]
      exact ⟨M1, by rw [e'], hf⟩
    · simp only [hy0, if_false]
      rcases lik_c A p (tJ (aT A)) with h | ⟨k, hk, h⟩
      · rw [h] at e' ⊢
        rw [e', if_pos rfl]
        exact ⟨M1, rfl, hf⟩
      · rw [h] at e' ⊢
        obtain ⟨M2, u, f2⟩ := c_laugh c1.e c1.1.2.2.2.2.1 hk hp
        rw [e', if_neg (by rw [nn_m1 (by omega)]; exact id)]
        simp only [↓gp0_2, ↓gp0_3, ↓gp0_4, ↓gp0_5, ↓gp0_6, ↓gp0_7, ↓gp0_8, ↓gp0_9, ↓gp0_10, ↓gp0_18, ↓gp0_19, ↓gp0_20, ↓gp0_22, ↓gp23_43, ↓gp23_32, ↓gp23_33, ↓gp23_34, ↓gp23_35, ↓gp23_36, ↓gp29_43, ↓gp29_32, ↓gp29_33, ↓gp29_34, ↓gp29_35, ↓gp29_36, ↓gp54_53, ↓gp54_54, ↓gp54_55, ↓gp54_56, ↓gp54_57, ↓gp54_58, ↓gp54_59, ↓gp54_60, ↓gp54_61, ↓gp54_62, ↓gp54_65, ↓gp54_66, ↓gp54_67, ↓gp54_68, ↓gp54_69, ↓gp54_70, ↓gp54_71, ↓gp54_73, ↓gp54_74, ↓gp54_75, ↓gp54_76, ↓gp54_84, ↓gp54_85, ↓gp54_87, ↓gp54_88, ↓xr59, kr59, ↓xr67, kr67, ↓xr75, kr75, ↓xr82, kr82, ↓xr89, kr89, ↓xr102, kr102, ↓xr115, kr115, ↓xr276, kr276, ↓xr437, kr437, ↓xr444, kr444, ↓xr453, kr453, ↓xr536, kr536, ↓xr553, kr553, hs0, hw0, hs1, hw1, hs2, hw2, hs3, hw3, hs4, hw4, hs5, hw5, hs6, hw6, hs7, hw7, hs8, hw8, hs9, hw9, hs10, hw10, hs11, hw11, hs12, hw12, hs13, hw13, hs14, hw14, hs15, hw15, hs16, hw16, hs17, hw17, hs18, hw18, hs19, hw19, hs20, hw20, hs21, hw21, hs22, hw22, hs23, hw23, hs25, hw25, hs26, hw26, hs27, hw27, hs28, hw28, hs9b, hw9b, hs10b, hw10b, kd0, kd20, kd21, kd22, kd23, kd24, kd25, kd26, kd27, kd28, kd29, kd30, kd31, kd32, kd33, kd34, kd35, kd36, kd37, kd38, kd39, kd40, kd41, kd42, kd54, kd55, kd56, kd57, kd58, kd59, kd67, kd75, kd82, kd89, kd102, kd115, kd276, kd437, kd444, kd451, kd452, kd453, kd534, kd535, kd536, kd553, kd557, kd558, kd559, kd560, kd561, ↓xgI_u, ↓xpI_u, ↓xaI_u, ↓xsI_u, ↓xrk_u, ↓xrk0_u, ↓xob_v, ↓xmb_v, ↓xth_v, ↓xth_x, ↓jn_u, ↓xlen_u, ↓xaL_u, ↓xsL_u, ↓xbl_0, ↓xbl_1, eq_self, inb_n, inb_d, Sh_PI, Sh_PL, dk_PI, dk_PL, dr_PI, dr_PL, ↓reduceIte, Int32.reduceLE, Int32.reduceLT, Int32.reduceToNatClampNeg, Nat.reduceLT, Nat.reduceLeDiff, Nat.reduceEqDiff, Nat.reduceAdd, Nat.reduceMul, c1.1.1, u]
        exact ⟨M2, rfl, hf.t0 (f2.mono (S' := cSc b) (fun a k q => Or.inr (Or.inl q)) (fun _ _ q => q) (Nat.le_refl _) (Nat.le_refl _))⟩
  · intro f i ⟨x, M1⟩ hi ⟨e, hf⟩ hn
    have c1 := cinv_s hC hf
    have e' : x = _ := e
    have es : likS A p (i + 1) = if (likS A p i).2 < lghS (aT A) (aLw A) (aNow A) i p then (Int32.ofNat i, lghS (aT A) (aLw A) (aNow A) i p) else likS A p i := rfl
    obtain ⟨n, hn40, en⟩ := lgh_b (aT A) (aLw A) (aNow A) i p
    show ∃ M3, L_X1_likes_18 b (Int32.ofNat p) y _ (f + 1) x _ M1 = _ ∧ _
    rcases lik_c A p i with h | ⟨k, hk, h⟩
    · rw [h] at e' es
      have hlt : ((-1 : Int32) < lghS (aT A) (aLw A) (aNow A) i p) := by rw [en, m1_lt (by omega)]; trivial
      rw [if_pos hlt] at es
      simp -implicitDefEqProofs only [L_X1_likes_18, ↓xgI_u, ↓xpI_u, ↓xaI_u, ↓xsI_u, ↓xrk_u, ↓xrk0_u, ↓xob_v, ↓xmb_v, ↓xth_v, ↓xth_x, ↓jn_u, ↓xlen_u, ↓xaL_u, ↓xsL_u, ↓xbl_0, ↓xbl_1, eq_self, inb_n, inb_d, Sh_PI, Sh_PL, dk_PI, dk_PL, dr_PI, dr_PL, ↓reduceIte, Int32.reduceLE, Int32.reduceLT, Int32.reduceToNatClampNeg, Nat.reduceLT, Nat.reduceLeDiff, Nat.reduceEqDiff, Nat.reduceAdd, Nat.reduceMul, kd0 c1.1.1, c_jokes c1.1.1 c1.1.2.1, i_geF hi (by omega), if_false, e', if_true, i_succ]
      exact hn (Int32.ofNat i, M1) ⟨(congrArg Prod.fst es).symm, hf⟩
    · rw [h] at e' es
      obtain ⟨M2, u, f2⟩ := c_laugh c1.e c1.1.2.2.2.2.1 hi hp
      have hf2 := hf.t0 (f2.mono (S' := cSc b) (fun a k q => Or.inr (Or.inl q)) (fun _ _ q => q) (Nat.le_refl _) (Nat.le_refl _))
      have c2 := cinv_s hC hf2
      obtain ⟨M3, u3, f3⟩ := c_laugh c2.e c2.1.2.2.2.2.1 (show k < tJ (aT A) by omega) hp
      have hf3 := hf2.t0 (f3.mono (S' := cSc b) (fun a k q => Or.inr (Or.inl q)) (fun _ _ q => q) (Nat.le_refl _) (Nat.le_refl _))
      simp -implicitDefEqProofs only [L_X1_likes_18, ↓gp0_2, ↓gp0_3, ↓gp0_4, ↓gp0_5, ↓gp0_6, ↓gp0_7, ↓gp0_8, ↓gp0_9, ↓gp0_10, ↓gp0_18, ↓gp0_19, ↓gp0_20, ↓gp0_22, ↓gp23_43, ↓gp23_32, ↓gp23_33, ↓gp23_34, ↓gp23_35, ↓gp23_36, ↓gp29_43, ↓gp29_32, ↓gp29_33, ↓gp29_34, ↓gp29_35, ↓gp29_36, ↓gp54_53, ↓gp54_54, ↓gp54_55, ↓gp54_56, ↓gp54_57, ↓gp54_58, ↓gp54_59, ↓gp54_60, ↓gp54_61, ↓gp54_62, ↓gp54_65, ↓gp54_66, ↓gp54_67, ↓gp54_68, ↓gp54_69, ↓gp54_70, ↓gp54_71, ↓gp54_73, ↓gp54_74, ↓gp54_75, ↓gp54_76, ↓gp54_84, ↓gp54_85, ↓gp54_87, ↓gp54_88, ↓xr59, kr59, ↓xr67, kr67, ↓xr75, kr75, ↓xr82, kr82, ↓xr89, kr89, ↓xr102, kr102, ↓xr115, kr115, ↓xr276, kr276, ↓xr437, kr437, ↓xr444, kr444, ↓xr453, kr453, ↓xr536, kr536, ↓xr553, kr553, hs0, hw0, hs1, hw1, hs2, hw2, hs3, hw3, hs4, hw4, hs5, hw5, hs6, hw6, hs7, hw7, hs8, hw8, hs9, hw9, hs10, hw10, hs11, hw11, hs12, hw12, hs13, hw13, hs14, hw14, hs15, hw15, hs16, hw16, hs17, hw17, hs18, hw18, hs19, hw19, hs20, hw20, hs21, hw21, hs22, hw22, hs23, hw23, hs25, hw25, hs26, hw26, hs27, hw27, hs28, hw28, hs9b, hw9b, hs10b, hw10b, kd0, kd20, kd21, kd22, kd23, kd24, kd25, kd26, kd27, kd28, kd29, kd30, kd31, kd32, kd33, kd34, kd35, kd36, kd37, kd38, kd39, kd40, kd41, kd42, kd54, kd55, kd56, kd57, kd58, kd59, kd67, kd75, kd82, kd89, kd102, kd115, kd276, kd437, kd444, kd451, kd452, kd453, kd534, kd535, kd536, kd553, kd557, kd558, kd559, kd560, kd561, ↓xgI_u, ↓xpI_u, ↓xaI_u, ↓xsI_u, ↓xrk_u, ↓xrk0_u, ↓xob_v, ↓xmb_v, ↓xth_v, ↓xth_x, ↓jn_u, ↓xlen_u, ↓xaL_u, ↓xsL_u, ↓xbl_0, ↓xbl_1, eq_self, inb_n, inb_d, Sh_PI, Sh_PL, dk_PI, dk_PL, dr_PI, dr_PL, ↓reduceIte, Int32.reduceLE, Int32.reduceLT, Int32.reduceToNatClampNeg, Nat.reduceLT, Nat.reduceLeDiff, Nat.reduceEqDiff, Nat.reduceAdd, Nat.reduceMul, c1.1.1, c2.1.1, c_jokes c1.1.1 c1.1.2.1, i_geF hi (by omega), if_false, e', nn_m1 (show k < 2147483648 by omega), u, u3, i_succ]
      by_cases hc : lghS (aT A) (aLw A) (aNow A) i p ≤ lghS (aT A) (aLw A) (aNow A) k p
      · rw [if_neg (Int32.not_lt.mpr hc)] at es
        rw [if_pos hc]
        exact hn (Int32.ofNat k, M3) ⟨(congrArg Prod.fst es).symm, hf3⟩
      · rw [if_pos (Int32.not_le.mp hc)] at es
        rw [if_neg hc]
        exact hn (Int32.ofNat i, M3) ⟨(congrArg Prod.fst es).symm, hf3⟩
theorem T_likes {p : Nat} {y : Int32} (hT : TInv b M A) (hp : p < tP (aT A)) (hy : inV y 0 1 = 1) : ∃ M2, m_X10_likes M (b + 54) (Int32.ofNat p) y = some (likV A p y, M2) ∧ fr (tSc b) nz 0 0 (dwPI M (b + 54) 44 0) M2 := by
  obtain ⟨hT0, f0, z0⟩ := tinv_z hT
  have o1 := hT.1.ok.1.1
  have o2 := hT.1.ok.1.2.1
  simp -implicitDefEqProofs only [m_X10_likes, ↓gp0_2, ↓gp0_3, ↓gp0_4, ↓gp0_5, ↓gp0_6, ↓gp0_7, ↓gp0_8, ↓gp0_9, ↓gp0_10, ↓gp0_18, ↓gp0_19, ↓gp0_20, ↓gp0_22, ↓gp23_43, ↓gp23_32, ↓gp23_33, ↓gp23_34, ↓gp23_35, ↓gp23_36, ↓gp29_43, ↓gp29_32, ↓gp29_33, ↓gp29_34, ↓gp29_35, ↓gp29_36, ↓gp54_53, ↓gp54_54, ↓gp54_55, ↓gp54_56, ↓gp54_57, ↓gp54_58, ↓gp54_59, ↓gp54_60, ↓gp54_61, ↓gp54_62, ↓gp54_65, ↓gp54_66, ↓gp54_67, ↓gp54_68, ↓gp54_69, ↓gp54_70, ↓gp54_71, ↓gp54_73, ↓gp54_74, ↓gp54_75, ↓gp54_76, ↓gp54_84, ↓gp54_85, ↓gp54_87, ↓gp54_88, ↓xr59, kr59, ↓xr67, kr67, ↓xr75, kr75, ↓xr82, kr82, ↓xr89, kr89, ↓xr102, kr102, ↓xr115, kr115, ↓xr276, kr276, ↓xr437, kr437, ↓xr444, kr444, ↓xr453, kr453, ↓xr536, kr536, ↓xr553, kr553, hs0, hw0, hs1, hw1, hs2, hw2, hs3, hw3, hs4, hw4, hs5, hw5, hs6, hw6, hs7, hw7, hs8, hw8, hs9, hw9, hs10, hw10, hs11, hw11, hs12, hw12, hs13, hw13, hs14, hw14, hs15, hw15, hs16, hw16, hs17, hw17, hs18, hw18, hs19, hw19, hs20, hw20, hs21, hw21, hs22, hw22, hs23, hw23, hs25, hw25, hs26, hw26, hs27, hw27, hs28, hw28, hs9b, hw9b, hs10b, hw10b, kd0, kd20, kd21, kd22, kd23, kd24, kd25, kd26, kd27, kd28, kd29, kd30, kd31, kd32, kd33, kd34, kd35, kd36, kd37, kd38, kd39, kd40, kd41, kd42, kd54, kd55, kd56, kd57, kd58, kd59, kd67, kd75, kd82, kd89, kd102, kd115, kd276, kd437, kd444, kd451, kd452, kd453, kd534, kd535, kd536, kd553, kd557, kd558, kd559, kd560, kd561, ↓xgI_u, ↓xpI_u, ↓xaI_u, ↓xsI_u, ↓xrk_u, ↓xrk0_u, ↓xob_v, ↓xmb_v, ↓xth_v, ↓xth_x, ↓jn_u, ↓xlen_u, ↓xaL_u, ↓xsL_u, ↓xbl_0, ↓xbl_1, eq_self, inb_n, inb_d, Sh_PI, Sh_PL, dk_PI, dk_PL, dr_PI, dr_PL, ↓reduceIte, Int32.reduceLE, Int32.reduceLT, Int32.reduceToNatClampNeg, Nat.reduceLT, Nat.reduceLeDiff, Nat.reduceEqDiff, Nat.reduceAdd, Nat.reduceMul, hT.1.1, t_isP hT0.1.1 hT0.1.2.1, t_inT hp (by omega), e10, t_bad0 hT0.1.1 z0, t_in, hy]
  refine lpx (E := fun x => ∃ M2, x = some (likV A p y, M2) ∧ fr (tSc b) nz 0 0 (dwPI M (b + 54) 44 0) M2) (fun f i (s : (Int32 × Int32) × dwSt) => L_X10_likes_60 (b + 54) (Int32.ofNat p) y (fun (y12 : Int32) (y13 : Int32) (M14 : dwSt) => if y = 0 then some (y12, M14) else some (y13, M14)) f s.1.1 s.1.2 (Int32.ofNat i) s.2) (tJ (aT A)) (fun i s => s.1 = likS A p i ∧ fr (tSc b) nz 0 0 (dwPI M (b + 54) 44 0) s.2) ?_ ?_ 1000000 0 ((-1, -1), dwPI M (b + 54) 44 0) (by omega) (by omega) ⟨rfl, fr.refl _⟩
  · intro f ⟨x, M1⟩ ⟨e, hf⟩
    have c1 := tinv_s hT0 hf
    have e' : x = _ := e
    show ∃ M3, L_X10_likes_60 (b + 54) (Int32.ofNat p) y _ (f + 1) x.1 x.2 _ M1 = _ ∧ _
    simp -implicitDefEqProofs only [L_X10_likes_60, ↓gp0_2, ↓gp0_3, ↓gp0_4, ↓gp0_5, ↓gp0_6, ↓gp0_7, ↓gp0_8, ↓gp0_9, ↓gp0_10, ↓gp0_18, ↓gp0_19, ↓gp0_20, ↓gp0_22, ↓gp23_43, ↓gp23_32, ↓gp23_33, ↓gp23_34, ↓gp23_35, ↓gp23_36, ↓gp29_43, ↓gp29_32, ↓gp29_33, ↓gp29_34, ↓gp29_35, ↓gp29_36, ↓gp54_53, ↓gp54_54, ↓gp54_55, ↓gp54_56, ↓gp54_57, ↓gp54_58, ↓gp54_59, ↓gp54_60, ↓gp54_61, ↓gp54_62, ↓gp54_65, ↓gp54_66, ↓gp54_67, ↓gp54_68, ↓gp54_69, ↓gp54_70, ↓gp54_71, ↓gp54_73, ↓gp54_74, ↓gp54_75, ↓gp54_76, ↓gp54_84, ↓gp54_85, ↓gp54_87, ↓gp54_88, ↓xr59, kr59, ↓xr67, kr67, ↓xr75, kr75, ↓xr82, kr82, ↓xr89, kr89, ↓xr102, kr102, ↓xr115, kr115, ↓xr276, kr276, ↓xr437, kr437, ↓xr444, kr444, ↓xr453, kr453, ↓xr536, kr536, ↓xr553, kr553, hs0, hw0, hs1, hw1, hs2, hw2, hs3, hw3, hs4, hw4, hs5, hw5, hs6, hw6, hs7, hw7, hs8, hw8, hs9, hw9, hs10, hw10, hs11, hw11, hs12, hw12, hs13, hw13, hs14, hw14, hs15, hw15, hs16, hw16, hs17, hw17, hs18, hw18, hs19, hw19, hs20, hw20, hs21, hw21, hs22, hw22, hs23, hw23, hs25, hw25, hs26, hw26, hs27, hw27, hs28, hw28, hs9b, hw9b, hs10b, hw10b, kd0, kd20, kd21, kd22, kd23, kd24, kd25, kd26, kd27, kd28, kd29, kd30, kd31, kd32, kd33, kd34, kd35, kd36, kd37, kd38, kd39, kd40, kd41, kd42, kd54, kd55, kd56, kd57, kd58, kd59, kd67, kd75, kd82, kd89, kd102, kd115, kd276, kd437, kd444, kd451, kd452, kd453, kd534, kd535, kd536, kd553, kd557, kd558, kd559, kd560, kd561, ↓xgI_u, ↓xpI_u, ↓xaI_u, ↓xsI_u, ↓xrk_u, ↓xrk0_u, ↓xob_v, ↓xmb_v, ↓xth_v, ↓xth_x, ↓jn_u, ↓xlen_u, ↓xaL_u, ↓xsL_u, ↓xbl_0, ↓xbl_1, eq_self, inb_n, inb_d, Sh_PI, Sh_PL, dk_PI, dk_PL, dr_PI, dr_PL, ↓reduceIte, Int32.reduceLE, Int32.reduceLT, Int32.reduceToNatClampNeg, Nat.reduceLT, Nat.reduceLeDiff, Nat.reduceEqDiff, Nat.reduceAdd, Nat.reduceMul, c1.1.1, c1.1.2.1.2.1, i_geT, if_true]
    unfold likV
    by_cases hy0 : y = 0
    · simp only [hy0, if_true]; exact ⟨M1, by rw [e'], hf⟩
    · simp only [hy0, if_false]; exact ⟨M1, by rw [e'], hf⟩
  · intro f i ⟨x, M1⟩ hi ⟨e, hf⟩ hn
    have c1 := tinv_s hT0 hf
    have e' : x = _ := e
    obtain ⟨M2, u, f2⟩ := t_laughOf c1.e (kd534 c1.1.1) hi hp
    rw [c1.1.2.2.2.2.1] at u
    have hf2 := hf.t0 (f2.mono (S' := tSc b) (fun a k q => by unfold sKn at q; unfold tSc; omega) (fun _ _ q => q) (Nat.le_refl _) (Nat.le_refl _))
    have es : likS A p (i + 1) = if (likS A p i).2 < lghS (aT A) (aLw A) (aNow A) i p then (Int32.ofNat i, lghS (aT A) (aLw A) (aNow A) i p) else likS A p i := rfl
    show ∃ M3, L_X10_likes_60 (b + 54) (Int32.ofNat p) y _ (f + 1) x.1 x.2 _ M1 = _ ∧ _
    simp -implicitDefEqProofs only [L_X10_likes_60, ↓gp0_2, ↓gp0_3, ↓gp0_4, ↓gp0_5, ↓gp0_6, ↓gp0_7, ↓gp0_8, ↓gp0_9, ↓gp0_10, ↓gp0_18, ↓gp0_19, ↓gp0_20, ↓gp0_22, ↓gp23_43, ↓gp23_32, ↓gp23_33, ↓gp23_34, ↓gp23_35, ↓gp23_36, ↓gp29_43, ↓gp29_32, ↓gp29_33, ↓gp29_34, ↓gp29_35, ↓gp29_36, ↓gp54_53, ↓gp54_54, ↓gp54_55, ↓gp54_56, ↓gp54_57, ↓gp54_58, ↓gp54_59, ↓gp54_60, ↓gp54_61, ↓gp54_62, ↓gp54_65, ↓gp54_66, ↓gp54_67, ↓gp54_68, ↓gp54_69, ↓gp54_70, ↓gp54_71, ↓gp54_73, ↓gp54_74, ↓gp54_75, ↓gp54_76, ↓gp54_84, ↓gp54_85, ↓gp54_87, ↓gp54_88, ↓xr59, kr59, ↓xr67, kr67, ↓xr75, kr75, ↓xr82, kr82, ↓xr89, kr89, ↓xr102, kr102, ↓xr115, kr115, ↓xr276, kr276, ↓xr437, kr437, ↓xr444, kr444, ↓xr453, kr453, ↓xr536, kr536, ↓xr553, kr553, hs0, hw0, hs1, hw1, hs2, hw2, hs3, hw3, hs4, hw4, hs5, hw5, hs6, hw6, hs7, hw7, hs8, hw8, hs9, hw9, hs10, hw10, hs11, hw11, hs12, hw12, hs13, hw13, hs14, hw14, hs15, hw15, hs16, hw16, hs17, hw17, hs18, hw18, hs19, hw19, hs20, hw20, hs21, hw21, hs22, hw22, hs23, hw23, hs25, hw25, hs26, hw26, hs27, hw27, hs28, hw28, hs9b, hw9b, hs10b, hw10b, kd0, kd20, kd21, kd22, kd23, kd24, kd25, kd26, kd27, kd28, kd29, kd30, kd31, kd32, kd33, kd34, kd35, kd36, kd37, kd38, kd39, kd40, kd41, kd42, kd54, kd55, kd56, kd57, kd58, kd59, kd67, kd75, kd82, kd89, kd102, kd115, kd276, kd437, kd444, kd451, kd452, kd453, kd534, kd535, kd536, kd553, kd557, kd558, kd559, kd560, kd561, ↓xgI_u, ↓xpI_u, ↓xaI_u, ↓xsI_u, ↓xrk_u, ↓xrk0_u, ↓xob_v, ↓xmb_v, ↓xth_v, ↓xth_x, ↓jn_u, ↓xlen_u, ↓xaL_u, ↓xsL_u, ↓xbl_0, ↓xbl_1, eq_self, inb_n, inb_d, Sh_PI, Sh_PL, dk_PI, dk_PL, dr_PI, dr_PL, ↓reduceIte, Int32.reduceLE, Int32.reduceLT, Int32.reduceToNatClampNeg, Nat.reduceLT, Nat.reduceLeDiff, Nat.reduceEqDiff, Nat.reduceAdd, Nat.reduceMul, c1.1.1, c1.1.2.1.2.1, i_geF hi (by omega), if_false, u, i_succ]
    rw [← e'] at es
    by_cases hc : x.2 < lghS (aT A) (aLw A) (aNow A) i p
    · rw [if_pos hc] at es ⊢
      exact hn (_, M2) ⟨es.symm, hf2⟩
    · rw [if_neg hc] at es ⊢
      exact hn (_, M2) ⟨es.symm, hf2⟩
end CALL
