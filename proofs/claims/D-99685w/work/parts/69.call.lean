/-! restore -/
section CALL
variable {b : Nat} {w : Nat → Nat} {M : dwSt} {A : dvA}
theorem T_restore (hT : TInv b M A) (h0 : ¬ (aIm A).1 = 0) : ∃ M1, m_X10_restore M (b + 54) = some (Int32.ofNat (rsJ A), M1) ∧ TInv b M1 (aRest A) ∧ fr (tW b) nz 0 0 M M1 := by
  obtain ⟨hT0, fz, zz⟩ := tinv_z hT
  have sh0 := hT0.1.sh
  have hn := shN sh0
  have o := hT0.1.ok
  have o4 := o.2.2.2.1
  have o6 := o.2.2.2.2.2.1
  have hj : rsJ A < (aIm A).1 := by unfold rsJ; omega
  have hj3 : rsJ A < 3 := by omega
  have o7 := (o.2.2.2.2.2.2.1 _ hj).1
  obtain ⟨p1, p2, p3⟩ := hT0.1.im.2 (rsJ A) hj
  have z0 : (Int32.ofNat (aIm A).1 = 0) = False := by rw [x_z0 (by omega)]; exact eq_false h0
  have ej : Int32.ofNat (aIm A).1 - 1 = Int32.ofNat (rsJ A) := x_sub1 h0
  have fA : fr (fun a k => a = b + 54 ∧ k = 80) nz 0 0 (dwPI M (b + 54) 44 0) (dwPI (dwPI M (b + 54) 44 0) (b + 54) 80 (Int32.ofNat (rsJ A))) := (fr.refl _).pI _ (Or.inl ⟨rfl, rfl⟩)
  have shA := sh0.fr fA nz_p
  obtain ⟨M2, e2, q1, q2, q3, q4⟩ := t_putsAll1 shA hj3
  have fS : ∀ a k, sTk b a k ∨ (a = b + 54 ∧ k = 80) ∨ (a = b + 54 ∧ k = 79) → (a = b + 54 ∧ (k = 78 ∨ k = 79 ∨ k = 80 ∨ k = 81)) ∨ a = b + 534 ∨ (b + 537 ≤ a ∧ a ≤ b + 552) := fun a k q => by unfold sTk at q; omega
  have f2 : fr (fun a k => (a = b + 54 ∧ (k = 78 ∨ k = 79 ∨ k = 80 ∨ k = 81)) ∨ a = b + 534 ∨ (b + 537 ≤ a ∧ a ≤ b + 552)) nz 0 0 (dwPI M (b + 54) 44 0) M2 := (fA.mono (fun a k q => fS a k (Or.inr (Or.inl q))) (fun _ _ q => q) (Nat.le_refl _) (Nat.le_refl _)).t0 (q1.mono (fun a k q => fS a k (Or.inl q)) (fun _ _ q => q) (Nat.le_refl _) (Nat.le_refl _))
  have f3 : fr (fun a k => (a = b + 54 ∧ (k = 78 ∨ k = 79 ∨ k = 80 ∨ k = 81)) ∨ a = b + 534 ∨ (b + 537 ≤ a ∧ a ≤ b + 552)) nz 0 0 (dwPI M (b + 54) 44 0) (dwPI M2 (b + 54) 79 0) := f2.pI _ (Or.inl (Or.inl ⟨rfl, Or.inr (Or.inl rfl)⟩))
  have g2 := sh0.fr f2 nz_p
  have g3 := sh0.fr f3 nz_p
  have e80 : dwI M2 (b + 54) 80 = Int32.ofNat (rsJ A) := (q1.i (by show b + 54 < dwN (dwPI M (b + 54) 44 0); omega) (by unfold sTk; omega)).trans di_eq
  have ea : ∀ k, dwI (dwPI (dwPI M (b + 54) 44 0) (b + 54) 80 (Int32.ofNat (rsJ A))) (b + 554 + rsJ A) k = dwI (dwPI M (b + 54) 44 0) (b + 554 + rsJ A) k := fun k => by rw [di_PI, if_neg (by omega)]
  have c78 : dwI M2 (b + 54) 78 = Int32.ofNat ((aIm A).2.1 (rsJ A)) := (q4 0 (by omega)).trans ((ea 0).trans p1)
  have cn : ∀ k, k < 79 → dwI M2 (b + 534) k = (aIm A).2.2.1 (rsJ A) k := fun k hk => by
    have := q4 (1 + k) (by omega)
    rw [cel_n hk] at this
    exact this.trans ((ea _).trans (p2 k hk))
  have cr : ∀ r k, r < (aIm A).2.1 (rsJ A) → k < 79 → dwI M2 (b + 537 + r) k = (aIm A).2.2.2 (rsJ A) r k := fun r k hr hk => by
    have := q4 (80 + 79 * r + k) (by omega)
    rw [cel_r hk] at this
    exact this.trans ((ea _).trans (p3 r k hr hk))
  have crest : ∀ k, ¬ k < 79 → dwI M2 (b + 534) k = aNow A k := fun k hk => by
    rw [q3 (b + 534) k (fun j hj => ?_) (fun e => by omega) (by omega) (by omega), di_PI, if_neg (by omega), hT0.1.now]
    intro e
    unfold cel at e
    by_cases a1 : j = 0
    · rw [if_pos a1] at e
      have := congrArg Prod.fst e
      have : b + 54 = b + 534 := this
      omega
    · by_cases a2 : j < 80
      · rw [if_neg a1, if_pos a2] at e
        have := congrArg Prod.snd e
        have : j - 1 = k := this
        omega
      · rw [if_neg a1, if_neg a2] at e
        have := congrArg Prod.fst e
        have : b + 537 + (j - 80) / 79 = b + 534 := this
        omega
  refine ⟨dwPI M2 (b + 54) 79 0, ?_, ?_, fz.t0 (f3.mono (fun a k q => by unfold tW; omega) (fun _ _ q => q) (Nat.le_refl _) (Nat.le_refl _))⟩
  · simp -implicitDefEqProofs only [m_X10_restore, ↓gp0_2, ↓gp0_3, ↓gp0_4, ↓gp0_5, ↓gp0_6, ↓gp0_7, ↓gp0_8, ↓gp0_9, ↓gp0_10, ↓gp0_18, ↓gp0_19, ↓gp0_20, ↓gp0_22, ↓gp23_43, ↓gp23_32, ↓gp23_33, ↓gp23_34, ↓gp23_35, ↓gp23_36, ↓gp29_43, ↓gp29_32, ↓gp29_33, ↓gp29_34, ↓gp29_35, ↓gp29_36, ↓gp54_53, ↓gp54_54, ↓gp54_55, ↓gp54_56, ↓gp54_57, ↓gp54_58, ↓gp54_59, ↓gp54_60, ↓gp54_61, ↓gp54_62, ↓gp54_65, ↓gp54_66, ↓gp54_67, ↓gp54_68, ↓gp54_69, ↓gp54_70, ↓gp54_71, ↓gp54_73, ↓gp54_74, ↓gp54_75, ↓gp54_76, ↓gp54_84, ↓gp54_85, ↓gp54_87, ↓gp54_88, ↓xr59, kr59, ↓xr67, kr67, ↓xr75, kr75, ↓xr82, kr82, ↓xr89, kr89, ↓xr102, kr102, ↓xr115, kr115, ↓xr276, kr276, ↓xr437, kr437, ↓xr444, kr444, ↓xr453, kr453, ↓xr536, kr536, ↓xr553, kr553, hs0, hw0, hs1, hw1, hs2, hw2, hs3, hw3, hs4, hw4, hs5, hw5, hs6, hw6, hs7, hw7, hs8, hw8, hs9, hw9, hs10, hw10, hs11, hw11, hs12, hw12, hs13, hw13, hs14, hw14, hs15, hw15, hs16, hw16, hs17, hw17, hs18, hw18, hs19, hw19, hs20, hw20, hs21, hw21, hs22, hw22, hs23, hw23, hs25, hw25, hs26, hw26, hs27, hw27, hs28, hw28, hs9b, hw9b, hs10b, hw10b, kd0, kd20, kd21, kd22, kd23, kd24, kd25, kd26, kd27, kd28, kd29, kd30, kd31, kd32, kd33, kd34, kd35, kd36, kd37, kd38, kd39, kd40, kd41, kd42, kd54, kd55, kd56, kd57, kd58, kd59, kd67, kd75, kd82, kd89, kd102, kd115, kd276, kd437, kd444, kd451, kd452, kd453, kd534, kd535, kd536, kd553, kd557, kd558, kd559, kd560, kd561, ↓xgI_u, ↓xpI_u, ↓xaI_u, ↓xsI_u, ↓xrk_u, ↓xrk0_u, ↓xob_v, ↓xmb_v, ↓xth_v, ↓xth_x, ↓jn_u, ↓xlen_u, ↓xaL_u, ↓xsL_u, ↓xbl_0, ↓xbl_1, eq_self, inb_n, inb_d, Sh_PI, Sh_PL, dk_PI, dk_PL, dr_PI, dr_PL, ↓reduceIte, Int32.reduceLE, Int32.reduceLT, Int32.reduceToNatClampNeg, Nat.reduceLT, Nat.reduceLeDiff, Nat.reduceEqDiff, Nat.reduceAdd, Nat.reduceMul, hT.1.sh, sh0, shA, hT0.1.im.1, z0, if_false, ej, hj3, e2, g2, g3, di_PI, and_self, if_true, show ¬ (80 = 79) by omega, and_false, e80]
  · have hF : tFree b (fun a k => (a = b + 54 ∧ (k = 78 ∨ k = 79 ∨ k = 80 ∨ k = 81)) ∨ a = b + 534 ∨ (b + 537 ≤ a ∧ a ≤ b + 552)) := fun a k q => by omega
    have w79 : ∀ a k, (a = b + 54 → k ≠ 79) → dwI (dwPI M2 (b + 54) 79 0) a k = dwI M2 a k := fun a k h => by rw [di_PI, if_neg (fun e => h e.1 e.2)]
    refine ⟨tCore_mk g3 (hT0.1.told.fr sh0 f3 hF) (hT0.1.law.fr sh0 f3 hF) (hT0.1.bk.fr sh0 o.2.1.1 f3 (by omega) (fun a k h1 h2 => by omega)) (funext fun k => ?_) ⟨(w79 _ _ (by omega)).trans c78, fun r k hr hk => (w79 _ _ (by omega)).trans (cr r k hr hk)⟩ ⟨(w79 _ _ (by omega)).trans e80, fun i hi => ?_⟩ di_eq ((f3.i (by omega) (by omega)).trans hT0.1.pl) (hT0.1.tx.fr sh0 f3 (by omega) (fun k => by omega)) (aRest_ok o h0), (f3.i (by omega) (by omega)).trans hT0.2.1, (f3.i (by omega) (by omega)).trans hT0.2.2⟩
    · rw [w79 _ _ (by omega)]
      show _ = rsN A k
      unfold rsN cp79
      by_cases hk : k < 79
      · rw [if_pos hk]; exact cn k hk
      · rw [if_neg hk]; exact crest k hk
    · have hi' : i < rsJ A := hi
      obtain ⟨r1, r2, r3⟩ := hT0.1.im.2 i (by omega)
      have ex : ∀ k, dwI (dwPI M2 (b + 54) 79 0) (b + 554 + i) k = dwI (dwPI M (b + 54) 44 0) (b + 554 + i) k := fun k => f3.i (by omega) (by omega)
      exact ⟨(ex _).trans r1, fun k hk => (ex _).trans (r2 k hk), fun r k hr hk => (ex _).trans (r3 r k hr hk)⟩
theorem call_restore (hC : CInv b w M A) (hT : TInv b M A) (hR : room M 96 1312) : agree2 b M (fun M => m_X1_restore M b) (fun M => m_X10_restore M (b + 54)) := by
  have o6 := hC.1.ok.2.2.2.2.2.1
  by_cases h0 : (aIm A).1 = 0
  · have z0 : (Int32.ofNat (aIm A).1 = 0) = True := by rw [x_z0 (by omega)]; exact eq_true h0
    refine agree2_mk (A' := A) (v := -1) hT ⟨M, w, ?_, hC, (fr.refl M).mono (fun _ _ q => False.elim q) (fun _ _ q => False.elim q) (by omega) (by omega)⟩ fun M1 h1 => ?_
    · simp -implicitDefEqProofs only [m_X1_restore, ↓gp0_2, ↓gp0_3, ↓gp0_4, ↓gp0_5, ↓gp0_6, ↓gp0_7, ↓gp0_8, ↓gp0_9, ↓gp0_10, ↓gp0_18, ↓gp0_19, ↓gp0_20, ↓gp0_22, ↓gp23_43, ↓gp23_32, ↓gp23_33, ↓gp23_34, ↓gp23_35, ↓gp23_36, ↓gp29_43, ↓gp29_32, ↓gp29_33, ↓gp29_34, ↓gp29_35, ↓gp29_36, ↓gp54_53, ↓gp54_54, ↓gp54_55, ↓gp54_56, ↓gp54_57, ↓gp54_58, ↓gp54_59, ↓gp54_60, ↓gp54_61, ↓gp54_62, ↓gp54_65, ↓gp54_66, ↓gp54_67, ↓gp54_68, ↓gp54_69, ↓gp54_70, ↓gp54_71, ↓gp54_73, ↓gp54_74, ↓gp54_75, ↓gp54_76, ↓gp54_84, ↓gp54_85, ↓gp54_87, ↓gp54_88, ↓xr59, kr59, ↓xr67, kr67, ↓xr75, kr75, ↓xr82, kr82, ↓xr89, kr89, ↓xr102, kr102, ↓xr115, kr115, ↓xr276, kr276, ↓xr437, kr437, ↓xr444, kr444, ↓xr453, kr453, ↓xr536, kr536, ↓xr553, kr553, hs0, hw0, hs1, hw1, hs2, hw2, hs3, hw3, hs4, hw4, hs5, hw5, hs6, hw6, hs7, hw7, hs8, hw8, hs9, hw9, hs10, hw10, hs11, hw11, hs12, hw12, hs13, hw13, hs14, hw14, hs15, hw15, hs16, hw16, hs17, hw17, hs18, hw18, hs19, hw19, hs20, hw20, hs21, hw21, hs22, hw22, hs23, hw23, hs25, hw25, hs26, hw26, hs27, hw27, hs28, hw28, hs9b, hw9b, hs10b, hw10b, kd0, kd20, kd21, kd22, kd23, kd24, kd25, kd26, kd27, kd28, kd29, kd30, kd31, kd32, kd33, kd34, kd35, kd36, kd37, kd38, kd39, kd40, kd41, kd42, kd54, kd55, kd56, kd57, kd58, kd59, kd67, kd75, kd82, kd89, kd102, kd115, kd276, kd437, kd444, kd451, kd452, kd453, kd534, kd535, kd536, kd553, kd557, kd558, kd559, kd560, kd561, ↓xgI_u, ↓xpI_u, ↓xaI_u, ↓xsI_u, ↓xrk_u, ↓xrk0_u, ↓xob_v, ↓xmb_v, ↓xth_v, ↓xth_x, ↓jn_u, ↓xlen_u, ↓xaL_u, ↓xsL_u, ↓xbl_0, ↓xbl_1, eq_self, inb_n, inb_d, Sh_PI, Sh_PL, dk_PI, dk_PL, dr_PI, dr_PL, ↓reduceIte, Int32.reduceLE, Int32.reduceLT, Int32.reduceToNatClampNeg, Nat.reduceLT, Nat.reduceLeDiff, Nat.reduceEqDiff, Nat.reduceAdd, Nat.reduceMul, hC.1.sh, hC.1.im.1, z0, if_true]
    · obtain ⟨hT0, fz, zz⟩ := tinv_z h1
      exact ⟨_, by simp -implicitDefEqProofs only [m_X10_restore, ↓gp0_2, ↓gp0_3, ↓gp0_4, ↓gp0_5, ↓gp0_6, ↓gp0_7, ↓gp0_8, ↓gp0_9, ↓gp0_10, ↓gp0_18, ↓gp0_19, ↓gp0_20, ↓gp0_22, ↓gp23_43, ↓gp23_32, ↓gp23_33, ↓gp23_34, ↓gp23_35, ↓gp23_36, ↓gp29_43, ↓gp29_32, ↓gp29_33, ↓gp29_34, ↓gp29_35, ↓gp29_36, ↓gp54_53, ↓gp54_54, ↓gp54_55, ↓gp54_56, ↓gp54_57, ↓gp54_58, ↓gp54_59, ↓gp54_60, ↓gp54_61, ↓gp54_62, ↓gp54_65, ↓gp54_66, ↓gp54_67, ↓gp54_68, ↓gp54_69, ↓gp54_70, ↓gp54_71, ↓gp54_73, ↓gp54_74, ↓gp54_75, ↓gp54_76, ↓gp54_84, ↓gp54_85, ↓gp54_87, ↓gp54_88, ↓xr59, kr59, ↓xr67, kr67, ↓xr75, kr75, ↓xr82, kr82, ↓xr89, kr89, ↓xr102, kr102, ↓xr115, kr115, ↓xr276, kr276, ↓xr437, kr437, ↓xr444, kr444, ↓xr453, kr453, ↓xr536, kr536, ↓xr553, kr553, hs0, hw0, hs1, hw1, hs2, hw2, hs3, hw3, hs4, hw4, hs5, hw5, hs6, hw6, hs7, hw7, hs8, hw8, hs9, hw9, hs10, hw10, hs11, hw11, hs12, hw12, hs13, hw13, hs14, hw14, hs15, hw15, hs16, hw16, hs17, hw17, hs18, hw18, hs19, hw19, hs20, hw20, hs21, hw21, hs22, hw22, hs23, hw23, hs25, hw25, hs26, hw26, hs27, hw27, hs28, hw28, hs9b, hw9b, hs10b, hw10b, kd0, kd20, kd21, kd22, kd23, kd24, kd25, kd26, kd27, kd28, kd29, kd30, kd31, kd32, kd33, kd34, kd35, kd36, kd37, kd38, kd39, kd40, kd41, kd42, kd54, kd55, kd56, kd57, kd58, kd59, kd67, kd75, kd82, kd89, kd102, kd115, kd276, kd437, kd444, kd451, kd452, kd453, kd534, kd535, kd536, kd553, kd557, kd558, kd559, kd560, kd561, ↓xgI_u, ↓xpI_u, ↓xaI_u, ↓xsI_u, ↓xrk_u, ↓xrk0_u, ↓xob_v, ↓xmb_v, ↓xth_v, ↓xth_x, ↓jn_u, ↓xlen_u, ↓xaL_u, ↓xsL_u, ↓xbl_0, ↓xbl_1, eq_self, inb_n, inb_d, Sh_PI, Sh_PL, dk_PI, dk_PL, dr_PI, dr_PL, ↓reduceIte, Int32.reduceLE, Int32.reduceLT, Int32.reduceToNatClampNeg, Nat.reduceLT, Nat.reduceLeDiff, Nat.reduceEqDiff, Nat.reduceAdd, Nat.reduceMul, h1.1.sh, hT0.1.sh, hT0.1.im.1, z0, if_true], hT0, fz⟩
  · refine agree2_mk (A' := aRest A) (v := Int32.ofNat (rsJ A)) hT ?_ fun M1 h1 => T_restore h1 h0
    obtain ⟨M1, w', e, c, f⟩ := C_restore hC hR h0
    exact ⟨M1, w', e, c, f.mono (fun a k q => by unfold sRs at q; unfold cWo; omega) (fun a k q => ⟨by unfold zRs at q; unfold cWo; omega, zRs_p a k q⟩) (by omega) (by omega)⟩
end CALL
