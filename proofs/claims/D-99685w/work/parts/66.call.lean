/-! image -/
section CALL
variable {b : Nat} {w : Nat → Nat} {M : dwSt} {A : dvA}
theorem T_image (hT : TInv b M A) (h3 : (aIm A).1 < 3) : ∃ M1, m_X10_image M (b + 54) = some (Int32.ofNat ((aIm A).1 + 1), M1) ∧ TInv b M1 (aImage A) ∧ fr (tW b) nz 0 0 M M1 := by
  obtain ⟨hT0, fz, zz⟩ := tinv_z hT
  have sh0 := hT0.1.sh
  have hn := shN sh0
  have o := hT0.1.ok
  have o4 := o.2.2.2.1
  have z3 : (Int32.ofNat (aIm A).1 = 3) = False := by
    rw [show (3 : Int32) = Int32.ofNat 3 from rfl, i_inj (by omega) (by omega)]; exact eq_false (by omega)
  obtain ⟨M2, e2, p1, p2, p3⟩ := t_putsAll0 sh0 h3
  have f2 : fr (fun a k => (a = b + 54 ∧ (k = 80 ∨ k = 81)) ∨ a = b + 554 + (aIm A).1) nz 0 0 (dwPI M (b + 54) 44 0) M2 := p1.mono (fun a k q => by unfold sPu at q; omega) (fun _ _ q => q) (Nat.le_refl _) (Nat.le_refl _)
  have f3 : fr (fun a k => (a = b + 54 ∧ (k = 80 ∨ k = 81)) ∨ a = b + 554 + (aIm A).1) nz 0 0 (dwPI M (b + 54) 44 0) (dwPI M2 (b + 54) 80 (Int32.ofNat ((aIm A).1 + 1))) := f2.pI _ (Or.inl (Or.inl ⟨rfl, Or.inl rfl⟩))
  have g2 := sh0.fr f2 nz_p
  have g3 := sh0.fr f3 nz_p
  have e80 : dwI M2 (b + 54) 80 = Int32.ofNat (aIm A).1 := (p1.i (by omega) (by unfold sPu; omega)).trans hT0.1.im.1
  refine ⟨dwPI M2 (b + 54) 80 (Int32.ofNat ((aIm A).1 + 1)), ?_, ?_, fz.t0 (f3.mono (fun a k q => by unfold tW; omega) (fun _ _ q => q) (Nat.le_refl _) (Nat.le_refl _))⟩
  · simp -implicitDefEqProofs only [m_X10_image, ↓gp0_2, ↓gp0_3, ↓gp0_4, ↓gp0_5, ↓gp0_6, ↓gp0_7, ↓gp0_8, ↓gp0_9, ↓gp0_10, ↓gp0_18, ↓gp0_19, ↓gp0_20, ↓gp0_22, ↓gp23_43, ↓gp23_32, ↓gp23_33, ↓gp23_34, ↓gp23_35, ↓gp23_36, ↓gp29_43, ↓gp29_32, ↓gp29_33, ↓gp29_34, ↓gp29_35, ↓gp29_36, ↓gp54_53, ↓gp54_54, ↓gp54_55, ↓gp54_56, ↓gp54_57, ↓gp54_58, ↓gp54_59, ↓gp54_60, ↓gp54_61, ↓gp54_62, ↓gp54_65, ↓gp54_66, ↓gp54_67, ↓gp54_68, ↓gp54_69, ↓gp54_70, ↓gp54_71, ↓gp54_73, ↓gp54_74, ↓gp54_75, ↓gp54_76, ↓gp54_84, ↓gp54_85, ↓gp54_87, ↓gp54_88, ↓xr59, kr59, ↓xr67, kr67, ↓xr75, kr75, ↓xr82, kr82, ↓xr89, kr89, ↓xr102, kr102, ↓xr115, kr115, ↓xr276, kr276, ↓xr437, kr437, ↓xr444, kr444, ↓xr453, kr453, ↓xr536, kr536, ↓xr553, kr553, hs0, hw0, hs1, hw1, hs2, hw2, hs3, hw3, hs4, hw4, hs5, hw5, hs6, hw6, hs7, hw7, hs8, hw8, hs9, hw9, hs10, hw10, hs11, hw11, hs12, hw12, hs13, hw13, hs14, hw14, hs15, hw15, hs16, hw16, hs17, hw17, hs18, hw18, hs19, hw19, hs20, hw20, hs21, hw21, hs22, hw22, hs23, hw23, hs25, hw25, hs26, hw26, hs27, hw27, hs28, hw28, hs9b, hw9b, hs10b, hw10b, kd0, kd20, kd21, kd22, kd23, kd24, kd25, kd26, kd27, kd28, kd29, kd30, kd31, kd32, kd33, kd34, kd35, kd36, kd37, kd38, kd39, kd40, kd41, kd42, kd54, kd55, kd56, kd57, kd58, kd59, kd67, kd75, kd82, kd89, kd102, kd115, kd276, kd437, kd444, kd451, kd452, kd453, kd534, kd535, kd536, kd553, kd557, kd558, kd559, kd560, kd561, ↓xgI_u, ↓xpI_u, ↓xaI_u, ↓xsI_u, ↓xrk_u, ↓xrk0_u, ↓xob_v, ↓xmb_v, ↓xth_v, ↓xth_x, ↓jn_u, ↓xlen_u, ↓xaL_u, ↓xsL_u, ↓xbl_0, ↓xbl_1, eq_self, inb_n, inb_d, Sh_PI, Sh_PL, dk_PI, dk_PL, dr_PI, dr_PL, ↓reduceIte, Int32.reduceLE, Int32.reduceLT, Int32.reduceToNatClampNeg, Nat.reduceLT, Nat.reduceLeDiff, Nat.reduceEqDiff, Nat.reduceAdd, Nat.reduceMul, hT.1.sh, sh0, hT0.1.im.1, z3, if_false, h3, e2, g2, g3, e80, i_succ, di_PI, and_self, if_true]
  · have hF : tFree b (fun a k => (a = b + 54 ∧ (k = 80 ∨ k = 81)) ∨ a = b + 554 + (aIm A).1) := fun a k q => by omega
    refine ⟨tCore_mk g3 (hT0.1.told.fr sh0 f3 hF) (hT0.1.law.fr sh0 f3 hF) (hT0.1.bk.fr sh0 o.2.1.1 f3 (by omega) (fun a k h1 h2 => by omega)) ((f3.if (by omega) (fun k => by omega)).trans hT0.1.now) (hT0.1.pa.fr sh0 o4 f3 (by omega) (fun a k h1 h2 => by omega)) ⟨di_eq, fun i hi => ?_⟩ ((f3.i (by omega) (by omega)).trans hT0.1.rs) ((f3.i (by omega) (by omega)).trans hT0.1.pl) (hT0.1.tx.fr sh0 f3 (by omega) (fun k => by omega)) (aImage_ok o h3), (f3.i (by omega) (by omega)).trans hT0.2.1, (f3.i (by omega) (by omega)).trans hT0.2.2⟩
    have hi' : i < (aIm A).1 + 1 := hi
    show dwI _ (b + 554 + i) 0 = Int32.ofNat (if i = (aIm A).1 then (aPa A).1 else (aIm A).2.1 i) ∧ (∀ k, k < 79 → dwI _ (b + 554 + i) (1 + k) = (if i = (aIm A).1 then aNow A else (aIm A).2.2.1 i) k) ∧ ∀ r k, r < (if i = (aIm A).1 then (aPa A).1 else (aIm A).2.1 i) → k < 79 → dwI _ (b + 554 + i) (80 + 79 * r + k) = (if i = (aIm A).1 then (aPa A).2 else (aIm A).2.2.2 i) r k
    by_cases e : i = (aIm A).1
    · rw [if_pos e, if_pos e, if_pos e, e]
      have pw : ∀ k, k < 1344 → dwI (dwPI M2 (b + 54) 80 (Int32.ofNat ((aIm A).1 + 1))) (b + 554 + (aIm A).1) k = flV (dwPI M (b + 54) 44 0) b k := fun k hk => by
        rw [di_PI, if_neg (by omega)]; exact p3 k hk
      refine ⟨(pw 0 (by omega)).trans hT0.1.pa.1, fun k hk => ?_, fun r k hr hk => ?_⟩
      · rw [pw _ (by omega), flV_n hk, hT0.1.now]
      · rw [pw _ (by omega), flV_r hk]; exact hT0.1.pa.2 r k hr hk
    · rw [if_neg e, if_neg e, if_neg e]
      obtain ⟨q1, q2, q3⟩ := hT0.1.im.2 i (by omega)
      have ex : ∀ k, dwI (dwPI M2 (b + 54) 80 (Int32.ofNat ((aIm A).1 + 1))) (b + 554 + i) k = dwI (dwPI M (b + 54) 44 0) (b + 554 + i) k := fun k => f3.i (by omega) (by omega)
      exact ⟨(ex _).trans q1, fun k hk => (ex _).trans (q2 k hk), fun r k hr hk => (ex _).trans (q3 r k hr hk)⟩
theorem call_image (hC : CInv b w M A) (hT : TInv b M A) (hR : room M 102 1394) : agree2 b M (fun M => m_X1_image M b) (fun M => m_X10_image M (b + 54)) := by
  have o6 := hC.1.ok.2.2.2.2.2.1
  by_cases h3 : (aIm A).1 < 3
  · refine agree2_mk (A' := aImage A) (v := Int32.ofNat ((aIm A).1 + 1)) hT ?_ fun M1 h1 => T_image h1 h3
    obtain ⟨M1, w', e, c, f⟩ := C_image hC hR h3
    refine ⟨M1, w', e, c, f.mono (fun a k q => ?_) (fun a k q => ?_) (by omega) (by omega)⟩
    · rcases q with q | q | q
      · have := q.1; unfold cWo; omega
      · unfold cWo; omega
      · unfold cWo; omega
    · exact ⟨by unfold zIm at q; unfold cWo; omega, zIm_p a k q⟩
  · have z3 : (Int32.ofNat (aIm A).1 = 3) = True := by
      rw [show (3 : Int32) = Int32.ofNat 3 from rfl, i_inj (by omega) (by omega)]; exact eq_true (by omega)
    refine agree2_mk (A' := A) (v := -1) hT ⟨M, w, ?_, hC, (fr.refl M).mono (fun _ _ q => False.elim q) (fun _ _ q => False.elim q) (by omega) (by omega)⟩ fun M1 h1 => ?_
    · simp -implicitDefEqProofs only [m_X1_image, ↓gp0_2, ↓gp0_3, ↓gp0_4, ↓gp0_5, ↓gp0_6, ↓gp0_7, ↓gp0_8, ↓gp0_9, ↓gp0_10, ↓gp0_18, ↓gp0_19, ↓gp0_20, ↓gp0_22, ↓gp23_43, ↓gp23_32, ↓gp23_33, ↓gp23_34, ↓gp23_35, ↓gp23_36, ↓gp29_43, ↓gp29_32, ↓gp29_33, ↓gp29_34, ↓gp29_35, ↓gp29_36, ↓gp54_53, ↓gp54_54, ↓gp54_55, ↓gp54_56, ↓gp54_57, ↓gp54_58, ↓gp54_59, ↓gp54_60, ↓gp54_61, ↓gp54_62, ↓gp54_65, ↓gp54_66, ↓gp54_67, ↓gp54_68, ↓gp54_69, ↓gp54_70, ↓gp54_71, ↓gp54_73, ↓gp54_74, ↓gp54_75, ↓gp54_76, ↓gp54_84, ↓gp54_85, ↓gp54_87, ↓gp54_88, ↓xr59, kr59, ↓xr67, kr67, ↓xr75, kr75, ↓xr82, kr82, ↓xr89, kr89, ↓xr102, kr102, ↓xr115, kr115, ↓xr276, kr276, ↓xr437, kr437, ↓xr444, kr444, ↓xr453, kr453, ↓xr536, kr536, ↓xr553, kr553, hs0, hw0, hs1, hw1, hs2, hw2, hs3, hw3, hs4, hw4, hs5, hw5, hs6, hw6, hs7, hw7, hs8, hw8, hs9, hw9, hs10, hw10, hs11, hw11, hs12, hw12, hs13, hw13, hs14, hw14, hs15, hw15, hs16, hw16, hs17, hw17, hs18, hw18, hs19, hw19, hs20, hw20, hs21, hw21, hs22, hw22, hs23, hw23, hs25, hw25, hs26, hw26, hs27, hw27, hs28, hw28, hs9b, hw9b, hs10b, hw10b, kd0, kd20, kd21, kd22, kd23, kd24, kd25, kd26, kd27, kd28, kd29, kd30, kd31, kd32, kd33, kd34, kd35, kd36, kd37, kd38, kd39, kd40, kd41, kd42, kd54, kd55, kd56, kd57, kd58, kd59, kd67, kd75, kd82, kd89, kd102, kd115, kd276, kd437, kd444, kd451, kd452, kd453, kd534, kd535, kd536, kd553, kd557, kd558, kd559, kd560, kd561, ↓xgI_u, ↓xpI_u, ↓xaI_u, ↓xsI_u, ↓xrk_u, ↓xrk0_u, ↓xob_v, ↓xmb_v, ↓xth_v, ↓xth_x, ↓jn_u, ↓xlen_u, ↓xaL_u, ↓xsL_u, ↓xbl_0, ↓xbl_1, eq_self, inb_n, inb_d, Sh_PI, Sh_PL, dk_PI, dk_PL, dr_PI, dr_PL, ↓reduceIte, Int32.reduceLE, Int32.reduceLT, Int32.reduceToNatClampNeg, Nat.reduceLT, Nat.reduceLeDiff, Nat.reduceEqDiff, Nat.reduceAdd, Nat.reduceMul, hC.1.sh, hC.1.im.1, z3, if_true]
    · obtain ⟨hT0, fz, zz⟩ := tinv_z h1
      exact ⟨_, by simp -implicitDefEqProofs only [m_X10_image, ↓gp0_2, ↓gp0_3, ↓gp0_4, ↓gp0_5, ↓gp0_6, ↓gp0_7, ↓gp0_8, ↓gp0_9, ↓gp0_10, ↓gp0_18, ↓gp0_19, ↓gp0_20, ↓gp0_22, ↓gp23_43, ↓gp23_32, ↓gp23_33, ↓gp23_34, ↓gp23_35, ↓gp23_36, ↓gp29_43, ↓gp29_32, ↓gp29_33, ↓gp29_34, ↓gp29_35, ↓gp29_36, ↓gp54_53, ↓gp54_54, ↓gp54_55, ↓gp54_56, ↓gp54_57, ↓gp54_58, ↓gp54_59, ↓gp54_60, ↓gp54_61, ↓gp54_62, ↓gp54_65, ↓gp54_66, ↓gp54_67, ↓gp54_68, ↓gp54_69, ↓gp54_70, ↓gp54_71, ↓gp54_73, ↓gp54_74, ↓gp54_75, ↓gp54_76, ↓gp54_84, ↓gp54_85, ↓gp54_87, ↓gp54_88, ↓xr59, kr59, ↓xr67, kr67, ↓xr75, kr75, ↓xr82, kr82, ↓xr89, kr89, ↓xr102, kr102, ↓xr115, kr115, ↓xr276, kr276, ↓xr437, kr437, ↓xr444, kr444, ↓xr453, kr453, ↓xr536, kr536, ↓xr553, kr553, hs0, hw0, hs1, hw1, hs2, hw2, hs3, hw3, hs4, hw4, hs5, hw5, hs6, hw6, hs7, hw7, hs8, hw8, hs9, hw9, hs10, hw10, hs11, hw11, hs12, hw12, hs13, hw13, hs14, hw14, hs15, hw15, hs16, hw16, hs17, hw17, hs18, hw18, hs19, hw19, hs20, hw20, hs21, hw21, hs22, hw22, hs23, hw23, hs25, hw25, hs26, hw26, hs27, hw27, hs28, hw28, hs9b, hw9b, hs10b, hw10b, kd0, kd20, kd21, kd22, kd23, kd24, kd25, kd26, kd27, kd28, kd29, kd30, kd31, kd32, kd33, kd34, kd35, kd36, kd37, kd38, kd39, kd40, kd41, kd42, kd54, kd55, kd56, kd57, kd58, kd59, kd67, kd75, kd82, kd89, kd102, kd115, kd276, kd437, kd444, kd451, kd452, kd453, kd534, kd535, kd536, kd553, kd557, kd558, kd559, kd560, kd561, ↓xgI_u, ↓xpI_u, ↓xaI_u, ↓xsI_u, ↓xrk_u, ↓xrk0_u, ↓xob_v, ↓xmb_v, ↓xth_v, ↓xth_x, ↓jn_u, ↓xlen_u, ↓xaL_u, ↓xsL_u, ↓xbl_0, ↓xbl_1, eq_self, inb_n, inb_d, Sh_PI, Sh_PL, dk_PI, dk_PL, dr_PI, dr_PL, ↓reduceIte, Int32.reduceLE, Int32.reduceLT, Int32.reduceToNatClampNeg, Nat.reduceLT, Nat.reduceLeDiff, Nat.reduceEqDiff, Nat.reduceAdd, Nat.reduceMul, h1.1.sh, hT0.1.sh, hT0.1.im.1, z3, if_true], hT0, fz⟩
end CALL
