/-! A BOOK: the twin's call; both -/
section CALL
variable {b : Nat} {w : Nat → Nat} {M : dwSt} {A : dvA}
theorem T_guard {n : Nat} (hT : TInv b M A) (hn : n ≤ (aTx A).1) : m_X10_in (Int32.ofNat n) 0 (dwI (dwPI M (b + 54) 44 0) (b + 54) 45) = some 1 := by
  have h45 := (tinv_z hT).1.1.tx.1
  have hx := (tpT_of hT).2.1
  rw [h45, t_in]
  unfold inV
  rw [if_neg (of_eq_false (i_neg (by omega))), if_neg (by rw [i_lt (by omega) (by omega)]; omega)]
theorem t_ends {M1 : dwSt} (hs : Sh b M1) : m_X10_ends M1 (b + 54) = some (dwI M1 (b + 54) 49 - 10, dwPI M1 (b + 54) 47 (dwI M1 (b + 54) 50)) := by
  simp -implicitDefEqProofs only [m_X10_ends, ↓gp0_2, ↓gp0_3, ↓gp0_4, ↓gp0_5, ↓gp0_6, ↓gp0_7, ↓gp0_8, ↓gp0_9, ↓gp0_10, ↓gp0_18, ↓gp0_19, ↓gp0_20, ↓gp0_22, ↓gp23_43, ↓gp23_32, ↓gp23_33, ↓gp23_34, ↓gp23_35, ↓gp23_36, ↓gp29_43, ↓gp29_32, ↓gp29_33, ↓gp29_34, ↓gp29_35, ↓gp29_36, ↓gp54_53, ↓gp54_54, ↓gp54_55, ↓gp54_56, ↓gp54_57, ↓gp54_58, ↓gp54_59, ↓gp54_60, ↓gp54_61, ↓gp54_62, ↓gp54_65, ↓gp54_66, ↓gp54_67, ↓gp54_68, ↓gp54_69, ↓gp54_70, ↓gp54_71, ↓gp54_73, ↓gp54_74, ↓gp54_75, ↓gp54_76, ↓gp54_84, ↓gp54_85, ↓gp54_87, ↓gp54_88, ↓xr59, kr59, ↓xr67, kr67, ↓xr75, kr75, ↓xr82, kr82, ↓xr89, kr89, ↓xr102, kr102, ↓xr115, kr115, ↓xr276, kr276, ↓xr437, kr437, ↓xr444, kr444, ↓xr453, kr453, ↓xr536, kr536, ↓xr553, kr553, hs0, hw0, hs1, hw1, hs2, hw2, hs3, hw3, hs4, hw4, hs5, hw5, hs6, hw6, hs7, hw7, hs8, hw8, hs9, hw9, hs10, hw10, hs11, hw11, hs12, hw12, hs13, hw13, hs14, hw14, hs15, hw15, hs16, hw16, hs17, hw17, hs18, hw18, hs19, hw19, hs20, hw20, hs21, hw21, hs22, hw22, hs23, hw23, hs25, hw25, hs26, hw26, hs27, hw27, hs28, hw28, hs9b, hw9b, hs10b, hw10b, kd0, kd20, kd21, kd22, kd23, kd24, kd25, kd26, kd27, kd28, kd29, kd30, kd31, kd32, kd33, kd34, kd35, kd36, kd37, kd38, kd39, kd40, kd41, kd42, kd54, kd55, kd56, kd57, kd58, kd59, kd67, kd75, kd82, kd89, kd102, kd115, kd276, kd437, kd444, kd451, kd452, kd453, kd534, kd535, kd536, kd553, kd557, kd558, kd559, kd560, kd561, ↓xgI_u, ↓xpI_u, ↓xaI_u, ↓xsI_u, ↓xrk_u, ↓xrk0_u, ↓xob_v, ↓xmb_v, ↓xth_v, ↓xth_x, ↓jn_u, ↓xlen_u, ↓xaL_u, ↓xsL_u, ↓xbl_0, ↓xbl_1, eq_self, inb_n, inb_d, Sh_PI, Sh_PL, dk_PI, dk_PL, dr_PI, dr_PL, ↓reduceIte, Int32.reduceLE, Int32.reduceLT, Int32.reduceToNatClampNeg, Nat.reduceLT, Nat.reduceLeDiff, Nat.reduceEqDiff, Nat.reduceAdd, Nat.reduceMul, hs, di_PI, show ¬ (49 = 47) by omega, and_false, if_false]
theorem T_book {n : Nat} (hT : TInv b M A) (hn : n ≤ (aTx A).1) (hn60 : n ≤ 60) : match boF (xbN A) n (tJ (aT A)) n (0, g00) (blS (xbN A) n 0) with
    | .inl B => ∃ M1, m_X10_book M (b + 54) (Int32.ofNat n) = some (Int32.ofNat B.1, M1) ∧ TInv b M1 (aRd A B (-1)) ∧ fr (tW b) nz 0 0 M M1 ∧ dwI M1 (b + 54) 44 = 0
    | .inr e => ∃ M1, m_X10_book M (b + 54) (Int32.ofNat n) = some (Int32.ofNat e.1 - 10, M1) ∧ TInv b M1 (aRd A (aBk A) (Int32.ofNat e.2)) ∧ fr (tW b) nz 0 0 M M1 ∧ dwI M1 (b + 54) 44 = 0 := by
  obtain ⟨hT0, f0, z0⟩ := tinv_z hT
  have hg := T_guard hT hn
  have hs := hT.1.sh
  have sh0 := hT0.1.sh
  have hN := shN sh0
  have hO := hT.1.ok
  have hJ6 := hO.1.2.1
  have f0' : fr (sRt b) nz 0 0 M (dwPI M (b + 54) 44 0) := (fr.refl M).pI _ (Or.inl (Or.inl ⟨rfl, by omega⟩))
  have hx600 := (tpT_of hT).2.1
  have h60 : (Int32.ofNat n ≤ 60) = True := by rw [show (60 : Int32) = Int32.ofNat 60 from rfl, i_le (by omega) (by omega)]; exact eq_true hn60
  have hbad0 := t_bad0 (x := 1) (i := 1) sh0 z0
  obtain ⟨M2, e2, f2, k2, j45, j51, j52⟩ := tS_starts (n := n) (tpT_of hT0) hn
  have sh2 := k2.1.1
  have F2 : fr (sRt b) nz 0 0 M M2 := f0'.t0 (f2.mono (fun a k z => Or.inl ⟨z.1, by omega⟩) (fun _ _ z => z) (Nat.le_refl _) (Nat.le_refl _))
  have told1 : dwI M2 (b + 58) 1 = Int32.ofNat (tJ (aT A)) := (F2.i (by have := shN hs; omega) (by unfold sRt; omega)).trans hT.1.told.2.1
  have hB2 : bT b M2 A n (tJ (aT A)) (0, g00) 0 (.inl (blS (xbN A) n 0)) := ⟨k2, told1, fun k i hk => absurd hk (Nat.not_lt_zero k), by omega, fun j hj => by
    rw [Nat.zero_testBit]
    exact ⟨fun z => absurd z (by decide), fun z => absurd rfl z⟩⟩
  have hN2 := shN sh2
  have j44 : dwI M2 (b + 54) 44 = 0 := (f2.i (by omega) (by omega)).trans z0
  have wid : ∀ {M1 : dwSt}, fr (sRt b) nz 0 0 M M1 → fr (tW b) nz 0 0 M M1 := fun f => f.mono (fun a k q => by unfold sRt at q; unfold tW; omega) (fun _ _ q => q) (Nat.le_refl _) (Nat.le_refl _)
  simp -implicitDefEqProofs only [m_X10_book, ↓gp0_2, ↓gp0_3, ↓gp0_4, ↓gp0_5, ↓gp0_6, ↓gp0_7, ↓gp0_8, ↓gp0_9, ↓gp0_10, ↓gp0_18, ↓gp0_19, ↓gp0_20, ↓gp0_22, ↓gp23_43, ↓gp23_32, ↓gp23_33, ↓gp23_34, ↓gp23_35, ↓gp23_36, ↓gp29_43, ↓gp29_32, ↓gp29_33, ↓gp29_34, ↓gp29_35, ↓gp29_36, ↓gp54_53, ↓gp54_54, ↓gp54_55, ↓gp54_56, ↓gp54_57, ↓gp54_58, ↓gp54_59, ↓gp54_60, ↓gp54_61, ↓gp54_62, ↓gp54_65, ↓gp54_66, ↓gp54_67, ↓gp54_68, ↓gp54_69, ↓gp54_70, ↓gp54_71, ↓gp54_73, ↓gp54_74, ↓gp54_75, ↓gp54_76, ↓gp54_84, ↓gp54_85, ↓gp54_87, ↓gp54_88, ↓xr59, kr59, ↓xr67, kr67, ↓xr75, kr75, ↓xr82, kr82, ↓xr89, kr89, ↓xr102, kr102, ↓xr115, kr115, ↓xr276, kr276, ↓xr437, kr437, ↓xr444, kr444, ↓xr453, kr453, ↓xr536, kr536, ↓xr553, kr553, hs0, hw0, hs1, hw1, hs2, hw2, hs3, hw3, hs4, hw4, hs5, hw5, hs6, hw6, hs7, hw7, hs8, hw8, hs9, hw9, hs10, hw10, hs11, hw11, hs12, hw12, hs13, hw13, hs14, hw14, hs15, hw15, hs16, hw16, hs17, hw17, hs18, hw18, hs19, hw19, hs20, hw20, hs21, hw21, hs22, hw22, hs23, hw23, hs25, hw25, hs26, hw26, hs27, hw27, hs28, hw28, hs9b, hw9b, hs10b, hw10b, kd0, kd20, kd21, kd22, kd23, kd24, kd25, kd26, kd27, kd28, kd29, kd30, kd31, kd32, kd33, kd34, kd35, kd36, kd37, kd38, kd39, kd40, kd41, kd42, kd54, kd55, kd56, kd57, kd58, kd59, kd67, kd75, kd82, kd89, kd102, kd115, kd276, kd437, kd444, kd451, kd452, kd453, kd534, kd535, kd536, kd553, kd557, kd558, kd559, kd560, kd561, ↓xgI_u, ↓xpI_u, ↓xaI_u, ↓xsI_u, ↓xrk_u, ↓xrk0_u, ↓xob_v, ↓xmb_v, ↓xth_v, ↓xth_x, ↓jn_u, ↓xlen_u, ↓xaL_u, ↓xsL_u, ↓xbl_0, ↓xbl_1, eq_self, inb_n, inb_d, Sh_PI, Sh_PL, dk_PI, dk_PL, dr_PI, dr_PL, ↓reduceIte, Int32.reduceLE, Int32.reduceLT, Int32.reduceToNatClampNeg, Nat.reduceLT, Nat.reduceLeDiff, Nat.reduceEqDiff, Nat.reduceAdd, Nat.reduceMul, hs, sh0, hg, e10, if_false, h60, if_true, hbad0, e2]
  refine t_boL (E := fun z => match boF (xbN A) n (tJ (aT A)) n (0, g00) (blS (xbN A) n 0) with
    | .inl B => ∃ M1, z = some (Int32.ofNat B.1, M1) ∧ TInv b M1 (aRd A B (-1)) ∧ fr (tW b) nz 0 0 M M1 ∧ dwI M1 (b + 54) 44 = 0
    | .inr e => ∃ M1, z = some (Int32.ofNat e.1 - 10, M1) ∧ TInv b M1 (aRd A (aBk A) (Int32.ofNat e.2)) ∧ fr (tW b) nz 0 0 M M1 ∧ dwI M1 (b + 54) 44 = 0) (T := aT A) rfl hJ6 n (blS (xbN A) n 0) 1000000 (0, g00) 0 M2 (by omega) (by omega) bkR_0 hB2 blS_bl fun B' M3 f3 t3 => ?_
  have F3 : fr (sRt b) nz 0 0 M M3 := F2.t0 (f3.mono (fun a k z => by unfold sBt at z; unfold sRt; omega) (fun _ _ z => z) (Nat.le_refl _) (Nat.le_refl _))
  have sh3 := hs.fr F3 nz_p
  have q44 : dwI M3 (b + 54) 44 = 0 := (f3.i (by omega) (by unfold sBt; omega)).trans j44
  have q45 : dwI M3 (b + 54) 45 = 0 := (f3.i (by omega) (by unfold sBt; omega)).trans j45
  have hBR : ∀ B, boF (xbN A) n (tJ (aT A)) n (0, g00) (blS (xbN A) n 0) = .inl B → bkR (aT A) B := fun B e => boF_R rfl hJ6 _ _ _ _ bkR_0 ((blS_le _ 0 rfl).2 (Nat.zero_le _)) e
  generalize boF (xbN A) n (tJ (aT A)) n (0, g00) (blS (xbN A) n 0) = R at *
  cases R with
  | inl B =>
    obtain ⟨rfl, m, p, bt⟩ := t3
    have q49 := bt.1.ok.2.1
    have hB := hBR B' rfl
    have hB6 := hB.2.1
    have F4 : fr (sRt b) nz 0 0 M (dwPI (dwPI M3 (b + 54) 47 (-1)) (b + 54) 77 (Int32.ofNat B'.1)) := (F3.pI _ (Or.inl (Or.inl ⟨rfl, by omega⟩))).pI _ (Or.inl (Or.inl ⟨rfl, by omega⟩))
    have sh4 := hs.fr F4 nz_p
    have r445 : ∀ k i, k < B'.1 → i < 2 → dwI (dwPI (dwPI M3 (b + 54) 47 (-1)) (b + 54) 77 (Int32.ofNat B'.1)) (b + 445 + k) i = B'.2 k i := fun k i hk hi => by
      rw [di_ne (by omega), di_ne (by omega)]; exact bt.2.2.1 k i hk hi
    have q77 : dwI (dwPI (dwPI M3 (b + 54) 47 (-1)) (b + 54) 77 (Int32.ofNat B'.1)) (b + 54) 77 = Int32.ofNat B'.1 := di_eq
    have q47 : dwI (dwPI (dwPI M3 (b + 54) 47 (-1)) (b + 54) 77 (Int32.ofNat B'.1)) (b + 54) 47 = -1 := by rw [di_ne (by omega), di_eq]
    have p45 : dwI (dwPI (dwPI M3 (b + 54) 47 (-1)) (b + 54) 77 (Int32.ofNat B'.1)) (b + 54) 45 = 0 := by rw [di_ne (by omega), di_ne (by omega)]; exact q45
    have p44 : dwI (dwPI (dwPI M3 (b + 54) 47 (-1)) (b + 54) 77 (Int32.ofNat B'.1)) (b + 54) 44 = 0 := by rw [di_ne (by omega), di_ne (by omega)]; exact q44
    have hN3 := shN sh4
    have hlay : ∀ M4, M4 = dwPI (dwPI M3 (b + 54) 47 (-1)) (b + 54) 77 (Int32.ofNat B'.1) → ∃ M5, m_X10_lays M4 (b + 444) (b + 437) (Int32.ofNat B'.1) = some ((), M5) ∧ fr (fun a _ => b + 437 + 1 ≤ a ∧ a ≤ b + 437 + 6) nz 0 0 M4 M5 ∧ ∀ k i, k < B'.1 → i < 2 → dwI M5 (b + 437 + 1 + k) i = dwI M4 (b + 444 + 1 + k) i := fun M4 e => by
      subst e
      exact t_laysR (src := b + 444) (dst := b + 437) (N := 6) (m := B'.1) sh4 (by omega) (by omega) (by omega) (by omega) (fun i k hi => by unfold ptr; omega) hB6 (by omega) (fun M' h i hi _ K => xr444 h hi) (fun M' h i hi _ K => xr437 h hi) (fun M' h i hi => kr444 h i hi) (fun M' h i hi => kr437 h i hi)
    obtain ⟨M5, e5, f5, h5⟩ := hlay _ rfl
    have F5 : fr (sRt b) nz 0 0 M M5 := F4.t0 (f5.mono (fun a k z => by unfold sRt; omega) (fun _ _ z => z) (Nat.le_refl _) (Nat.le_refl _))
    refine ⟨M5, ?_, T_rd hT F5 ⟨?_, fun k i hk hi => ?_⟩ hB.ok ?_ ?_, wid F5, ?_⟩
    · have sh3' : Sh b M3 := sh3
      simp only [↓gp0_2, ↓gp0_3, ↓gp0_4, ↓gp0_5, ↓gp0_6, ↓gp0_7, ↓gp0_8, ↓gp0_9, ↓gp0_10, ↓gp0_18, ↓gp0_19, ↓gp0_20, ↓gp0_22, ↓gp23_43, ↓gp23_32, ↓gp23_33, ↓gp23_34, ↓gp23_35, ↓gp23_36, ↓gp29_43, ↓gp29_32, ↓gp29_33, ↓gp29_34, ↓gp29_35, ↓gp29_36, ↓gp54_53, ↓gp54_54, ↓gp54_55, ↓gp54_56, ↓gp54_57, ↓gp54_58, ↓gp54_59, ↓gp54_60, ↓gp54_61, ↓gp54_62, ↓gp54_65, ↓gp54_66, ↓gp54_67, ↓gp54_68, ↓gp54_69, ↓gp54_70, ↓gp54_71, ↓gp54_73, ↓gp54_74, ↓gp54_75, ↓gp54_76, ↓gp54_84, ↓gp54_85, ↓gp54_87, ↓gp54_88, ↓xr59, kr59, ↓xr67, kr67, ↓xr75, kr75, ↓xr82, kr82, ↓xr89, kr89, ↓xr102, kr102, ↓xr115, kr115, ↓xr276, kr276, ↓xr437, kr437, ↓xr444, kr444, ↓xr453, kr453, ↓xr536, kr536, ↓xr553, kr553, hs0, hw0, hs1, hw1, hs2, hw2, hs3, hw3, hs4, hw4, hs5, hw5, hs6, hw6, hs7, hw7, hs8, hw8, hs9, hw9, hs10, hw10, hs11, hw11, hs12, hw12, hs13, hw13, hs14, hw14, hs15, hw15, hs16, hw16, hs17, hw17, hs18, hw18, hs19, hw19, hs20, hw20, hs21, hw21, hs22, hw22, hs23, hw23, hs25, hw25, hs26, hw26, hs27, hw27, hs28, hw28, hs9b, hw9b, hs10b, hw10b, kd0, kd20, kd21, kd22, kd23, kd24, kd25, kd26, kd27, kd28, kd29, kd30, kd31, kd32, kd33, kd34, kd35, kd36, kd37, kd38, kd39, kd40, kd41, kd42, kd54, kd55, kd56, kd57, kd58, kd59, kd67, kd75, kd82, kd89, kd102, kd115, kd276, kd437, kd444, kd451, kd452, kd453, kd534, kd535, kd536, kd553, kd557, kd558, kd559, kd560, kd561, ↓xgI_u, ↓xpI_u, ↓xaI_u, ↓xsI_u, ↓xrk_u, ↓xrk0_u, ↓xob_v, ↓xmb_v, ↓xth_v, ↓xth_x, ↓jn_u, ↓xlen_u, ↓xaL_u, ↓xsL_u, ↓xbl_0, ↓xbl_1, eq_self, inb_n, inb_d, Sh_PI, Sh_PL, dk_PI, dk_PL, dr_PI, dr_PL, ↓reduceIte, Int32.reduceLE, Int32.reduceLT, Int32.reduceToNatClampNeg, Nat.reduceLT, Nat.reduceLeDiff, Nat.reduceEqDiff, Nat.reduceAdd, Nat.reduceMul, sh3', q49, if_true, e5]
    · rw [f5.i (by omega) (by omega)]; exact q77
    · rw [h5 k i hk hi]; exact r445 k i hk hi
    · rw [f5.i (by omega) (by omega)]; exact q47
    · rw [f5.i (by omega) (by omega)]; exact p45
    · rw [f5.i (by omega) (by omega)]; exact p44
  | inr e =>
    have t3' : tSt b M3 A n (.inr e) := t3
    obtain ⟨q49, q50, qz⟩ := t3'.bad
    have ends := t_ends sh3
    have F4 : fr (sRt b) nz 0 0 M (dwPI M3 (b + 54) 47 (Int32.ofNat e.2)) := F3.pI _ (Or.inl (Or.inl ⟨rfl, by omega⟩))
    rw [q49, q50] at ends
    refine ⟨dwPI M3 (b + 54) 47 (Int32.ofNat e.2), ?_, T_rd hT F4 ?_ hO.2.1 di_eq ?_, wid F4, ?_⟩
    · simp only [↓gp0_2, ↓gp0_3, ↓gp0_4, ↓gp0_5, ↓gp0_6, ↓gp0_7, ↓gp0_8, ↓gp0_9, ↓gp0_10, ↓gp0_18, ↓gp0_19, ↓gp0_20, ↓gp0_22, ↓gp23_43, ↓gp23_32, ↓gp23_33, ↓gp23_34, ↓gp23_35, ↓gp23_36, ↓gp29_43, ↓gp29_32, ↓gp29_33, ↓gp29_34, ↓gp29_35, ↓gp29_36, ↓gp54_53, ↓gp54_54, ↓gp54_55, ↓gp54_56, ↓gp54_57, ↓gp54_58, ↓gp54_59, ↓gp54_60, ↓gp54_61, ↓gp54_62, ↓gp54_65, ↓gp54_66, ↓gp54_67, ↓gp54_68, ↓gp54_69, ↓gp54_70, ↓gp54_71, ↓gp54_73, ↓gp54_74, ↓gp54_75, ↓gp54_76, ↓gp54_84, ↓gp54_85, ↓gp54_87, ↓gp54_88, ↓xr59, kr59, ↓xr67, kr67, ↓xr75, kr75, ↓xr82, kr82, ↓xr89, kr89, ↓xr102, kr102, ↓xr115, kr115, ↓xr276, kr276, ↓xr437, kr437, ↓xr444, kr444, ↓xr453, kr453, ↓xr536, kr536, ↓xr553, kr553, hs0, hw0, hs1, hw1, hs2, hw2, hs3, hw3, hs4, hw4, hs5, hw5, hs6, hw6, hs7, hw7, hs8, hw8, hs9, hw9, hs10, hw10, hs11, hw11, hs12, hw12, hs13, hw13, hs14, hw14, hs15, hw15, hs16, hw16, hs17, hw17, hs18, hw18, hs19, hw19, hs20, hw20, hs21, hw21, hs22, hw22, hs23, hw23, hs25, hw25, hs26, hw26, hs27, hw27, hs28, hw28, hs9b, hw9b, hs10b, hw10b, kd0, kd20, kd21, kd22, kd23, kd24, kd25, kd26, kd27, kd28, kd29, kd30, kd31, kd32, kd33, kd34, kd35, kd36, kd37, kd38, kd39, kd40, kd41, kd42, kd54, kd55, kd56, kd57, kd58, kd59, kd67, kd75, kd82, kd89, kd102, kd115, kd276, kd437, kd444, kd451, kd452, kd453, kd534, kd535, kd536, kd553, kd557, kd558, kd559, kd560, kd561, ↓xgI_u, ↓xpI_u, ↓xaI_u, ↓xsI_u, ↓xrk_u, ↓xrk0_u, ↓xob_v, ↓xmb_v, ↓xth_v, ↓xth_x, ↓jn_u, ↓xlen_u, ↓xaL_u, ↓xsL_u, ↓xbl_0, ↓xbl_1, eq_self, inb_n, inb_d, Sh_PI, Sh_PL, dk_PI, dk_PL, dr_PI, dr_PL, ↓reduceIte, Int32.reduceLE, Int32.reduceLT, Int32.reduceToNatClampNeg, Nat.reduceLT, Nat.reduceLeDiff, Nat.reduceEqDiff, Nat.reduceAdd, Nat.reduceMul, sh3, qz, if_false, ends]
    · have fB : fr (fun a k => sRt b a k ∧ ¬ (a = b + 54 ∧ k = 77) ∧ ¬ (b + 438 ≤ a ∧ a ≤ b + 443)) nz 0 0 M (dwPI M3 (b + 54) 47 (Int32.ofNat e.2)) := by
        have g1 : fr (fun a k => sRt b a k ∧ ¬ (a = b + 54 ∧ k = 77) ∧ ¬ (b + 438 ≤ a ∧ a ≤ b + 443)) nz 0 0 M (dwPI M (b + 54) 44 0) := (fr.refl M).pI _ (Or.inl ⟨Or.inl ⟨rfl, by omega⟩, by omega, by omega⟩)
        have g2 := g1.t0 (f2.mono (fun a k z => ⟨Or.inl ⟨z.1, by omega⟩, by omega, by omega⟩) (fun _ _ z => z) (Nat.le_refl _) (Nat.le_refl _))
        have g3 := g2.t0 (f3.mono (fun a k z => by unfold sBt at z; exact ⟨by unfold sRt; omega, by omega, by omega⟩) (fun _ _ z => z) (Nat.le_refl _) (Nat.le_refl _))
        exact g3.pI _ (Or.inl ⟨Or.inl ⟨rfl, by omega⟩, by omega, by omega⟩)
      exact hT.1.bk.fr hs hO.2.1.1 fB (fun z => z.2.1 ⟨rfl, rfl⟩) (fun a k h1 h2 z => z.2.2 ⟨h1, h2⟩)
    · rw [di_ne (by omega)]; exact q45
    · rw [di_ne (by omega)]; exact q44
theorem T_guard0 {x : Int32} (hT : TInv b M A) (hx : nin x ((aTx A).1 + 1)) : m_X10_in x 0 (dwI (dwPI M (b + 54) 44 0) (b + 54) 45) = some 0 := by
  have h45 := (tinv_z hT).1.1.tx.1
  have hx6 := (tpT_of hT).2.1
  rw [h45, t_in, ← x_s1, t_inF hx (by omega)]
theorem C_guard0 {x : Int32} (hC : CInv b w M A) (hx : nin x ((aTx A).1 + 1)) : x < 0 ∨ (¬ x < 0 ∧ dwI M b 15 < x) := by
  have hx6 := (tpC_of hC).2.1
  rcases hx with h | ⟨k, h1, h2, rfl⟩
  · exact Or.inl h
  · exact Or.inr ⟨of_eq_false (i_neg h2), by rw [hC.1.tx.1, i_lt (by omega) h2]; omega⟩
theorem rd_fail {f : dwSt → dwR9 Int32} {g : dwSt → Option (Int32 × dwSt)} {x : dwR9 Int32} (hC : CInv b w M A) (hT : TInv b M A) (hR : room M 9000 113000) (hx : ∃ K : Unit → dwSt → dwR9 Int32, x = xth (m_X1_need M b 0) K (KX Int32)) (hf : ∀ M1 q, x = some (.inr (1, q), M1) → f M = some (.inl 1, M1)) (hg : ∀ M1 M2, TInv b M1 A → m_X10_bad (dwPI M1 (b + 54) 44 0) (b + 54) 1 1 1 = some (1, M2) → g M1 = some (0, M2)) : agree b M f g := by
  refine agree_mk (A' := aBump A 1) (k := 1) (v := 0) hT (c_err (w := w) (f := f) (v := 0) (x := x) (cl := 1) (k := 1) (i := 1) (by decide) ?_ hf) fun M1 h1 => t_err (g := g) (v := 0) (x := 1) (i := 1) h1 (by decide) (by decide) fun M2 e => hg M1 M2 h1 e
  obtain ⟨M1, q, e, h⟩ := c_need0 rfl hC (hR.le (by omega) (by omega))
  obtain ⟨K, hK⟩ := hx
  exact ⟨M1, q, by rw [hK, e, xth_x], h⟩
theorem call_book (hC : CInv b w M A) (hT : TInv b M A) (hR : room M 9000 113000) (x : Int32) : agree b M (fun M => m_X0_book M b x (b + 561)) (fun M => m_X10_book M (b + 54) x) := by
  have hO := hC.1.ok
  have hx600 := (tpC_of hC).2.1
  have i15 := hC.1.tx.1
  have hs := hC.1.sh
  have hf : ∀ M1 q, m_X1_book M b x = some (.inr (1, q), M1) → m_X0_book M b x (b + 561) = some (.inl 1, M1) := fun M1 q e => by
    simp -implicitDefEqProofs only [m_X0_book, ↓xgI_u, ↓xpI_u, ↓xaI_u, ↓xsI_u, ↓xrk_u, ↓xrk0_u, ↓xob_v, ↓xmb_v, ↓xth_v, ↓xth_x, ↓jn_u, ↓xlen_u, ↓xaL_u, ↓xsL_u, ↓xbl_0, ↓xbl_1, eq_self, inb_n, inb_d, Sh_PI, Sh_PL, dk_PI, dk_PL, dr_PI, dr_PL, ↓reduceIte, Int32.reduceLE, Int32.reduceLT, Int32.reduceToNatClampNeg, Nat.reduceLT, Nat.reduceLeDiff, Nat.reduceEqDiff, Nat.reduceAdd, Nat.reduceMul, kd0 hs, e]
  rcases in_or x ((aTx A).1 + 1) with ⟨n, hn, rfl⟩ | hx
  · by_cases h60 : n ≤ 60
    · have hc := C_book hC (show n ≤ (aTx A).1 by omega) h60 hR
      have ht := fun M1 (h1 : TInv b M1 A) => T_book h1 (show n ≤ (aTx A).1 by omega) h60
      have ok : ∀ M1 (v : Int32), m_X1_book M b (Int32.ofNat n) = some (.inl v, M1) → dwK M1 (b + 561) = (3, 1) → m_X0_book M b (Int32.ofNat n) (b + 561) = some (.inl 0, dwPL M1 (b + 561) 0 v.toInt64) := fun M1 v e k => by
        simp -implicitDefEqProofs only [m_X0_book, ↓xgI_u, ↓xpI_u, ↓xaI_u, ↓xsI_u, ↓xrk_u, ↓xrk0_u, ↓xob_v, ↓xmb_v, ↓xth_v, ↓xth_x, ↓jn_u, ↓xlen_u, ↓xaL_u, ↓xsL_u, ↓xbl_0, ↓xbl_1, eq_self, inb_n, inb_d, Sh_PI, Sh_PL, dk_PI, dk_PL, dr_PI, dr_PL, ↓reduceIte, Int32.reduceLE, Int32.reduceLT, Int32.reduceToNatClampNeg, Nat.reduceLT, Nat.reduceLeDiff, Nat.reduceEqDiff, Nat.reduceAdd, Nat.reduceMul, kd0 hs, e, k]
      generalize boF (xbN A) n (tJ (aT A)) n (0, g00) (blS (xbN A) n 0) = R at *
      cases R with
      | inl B =>
        refine agree_mk (A' := aRd A B (-1)) (k := 0) (v := Int32.ofNat B.1) hT (c_rdk (f := fun M => m_X0_book M b (Int32.ofNat n) (b + 561)) hc fun M1 e k => ok M1 _ e k) fun M1 h1 => ?_
        obtain ⟨M2, e, i, f, k⟩ := ht M1 h1
        exact ⟨M2, _, e, i, f, k, fun _ => rfl⟩
      | inr e =>
        refine agree_mk (A' := aRd A (aBk A) (Int32.ofNat e.2)) (k := 0) (v := Int32.ofNat e.1 - 10) hT (c_rdk (f := fun M => m_X0_book M b (Int32.ofNat n) (b + 561)) hc fun M1 e k => ok M1 _ e k) fun M1 h1 => ?_
        obtain ⟨M2, e, i, f, k⟩ := ht M1 h1
        exact ⟨M2, _, e, i, f, k, fun _ => rfl⟩
    · have n60 : (60 : Int32) < Int32.ofNat n := by rw [show (60 : Int32) = Int32.ofNat 60 from rfl, i_lt (by omega) (by omega)]; omega
      have n60' : (Int32.ofNat n ≤ 60) = False := eq_false (Int32.not_le.mpr n60)
      refine rd_fail hC hT hR ⟨_, by
        unfold m_X1_book
        rw [jn_u, jn_u, if_neg (of_eq_false (i_neg (by omega))), xgI_u (by rw [kd0 hs]; rfl), i15, if_neg (by rw [i_lt (by omega) (by omega)]; omega), if_pos n60]
        show xrk M b 0 (xth (m_X1_need M b 0) _ _) = _
        rw [xrk_u (kd0 hs)]⟩ hf fun M1 M2 h1 e => ?_
      have hg := T_guard h1 (show n ≤ (aTx A).1 by omega)
      have s1 := h1.1.sh
      have s0 := (tinv_z h1).1.1.sh
      simp -implicitDefEqProofs only [m_X10_book, ↓gp0_2, ↓gp0_3, ↓gp0_4, ↓gp0_5, ↓gp0_6, ↓gp0_7, ↓gp0_8, ↓gp0_9, ↓gp0_10, ↓gp0_18, ↓gp0_19, ↓gp0_20, ↓gp0_22, ↓gp23_43, ↓gp23_32, ↓gp23_33, ↓gp23_34, ↓gp23_35, ↓gp23_36, ↓gp29_43, ↓gp29_32, ↓gp29_33, ↓gp29_34, ↓gp29_35, ↓gp29_36, ↓gp54_53, ↓gp54_54, ↓gp54_55, ↓gp54_56, ↓gp54_57, ↓gp54_58, ↓gp54_59, ↓gp54_60, ↓gp54_61, ↓gp54_62, ↓gp54_65, ↓gp54_66, ↓gp54_67, ↓gp54_68, ↓gp54_69, ↓gp54_70, ↓gp54_71, ↓gp54_73, ↓gp54_74, ↓gp54_75, ↓gp54_76, ↓gp54_84, ↓gp54_85, ↓gp54_87, ↓gp54_88, ↓xr59, kr59, ↓xr67, kr67, ↓xr75, kr75, ↓xr82, kr82, ↓xr89, kr89, ↓xr102, kr102, ↓xr115, kr115, ↓xr276, kr276, ↓xr437, kr437, ↓xr444, kr444, ↓xr453, kr453, ↓xr536, kr536, ↓xr553, kr553, hs0, hw0, hs1, hw1, hs2, hw2, hs3, hw3, hs4, hw4, hs5, hw5, hs6, hw6, hs7, hw7, hs8, hw8, hs9, hw9, hs10, hw10, hs11, hw11, hs12, hw12, hs13, hw13, hs14, hw14, hs15, hw15, hs16, hw16, hs17, hw17, hs18, hw18, hs19, hw19, hs20, hw20, hs21, hw21, hs22, hw22, hs23, hw23, hs25, hw25, hs26, hw26, hs27, hw27, hs28, hw28, hs9b, hw9b, hs10b, hw10b, kd0, kd20, kd21, kd22, kd23, kd24, kd25, kd26, kd27, kd28, kd29, kd30, kd31, kd32, kd33, kd34, kd35, kd36, kd37, kd38, kd39, kd40, kd41, kd42, kd54, kd55, kd56, kd57, kd58, kd59, kd67, kd75, kd82, kd89, kd102, kd115, kd276, kd437, kd444, kd451, kd452, kd453, kd534, kd535, kd536, kd553, kd557, kd558, kd559, kd560, kd561, ↓xgI_u, ↓xpI_u, ↓xaI_u, ↓xsI_u, ↓xrk_u, ↓xrk0_u, ↓xob_v, ↓xmb_v, ↓xth_v, ↓xth_x, ↓jn_u, ↓xlen_u, ↓xaL_u, ↓xsL_u, ↓xbl_0, ↓xbl_1, eq_self, inb_n, inb_d, Sh_PI, Sh_PL, dk_PI, dk_PL, dr_PI, dr_PL, ↓reduceIte, Int32.reduceLE, Int32.reduceLT, Int32.reduceToNatClampNeg, Nat.reduceLT, Nat.reduceLeDiff, Nat.reduceEqDiff, Nat.reduceAdd, Nat.reduceMul, s1, s0, hg, e10, if_false, n60', e]
  · have hg0 := C_guard0 hC hx
    refine rd_fail hC hT hR ?_ hf fun M1 M2 h1 e => ?_
    · rcases hg0 with h | ⟨h, h'⟩
      · refine ⟨_, by
          unfold m_X1_book
          rw [jn_u, jn_u, if_pos h]
          show xrk M b 0 (xth (m_X1_need M b 0) _ _) = _
          rw [xrk_u (kd0 hs)]⟩
      · refine ⟨_, by
          unfold m_X1_book
          rw [jn_u, jn_u, if_neg h, xgI_u (by rw [kd0 hs]; rfl), if_pos h']
          show xrk M b 0 (xth (m_X1_need M b 0) _ _) = _
          rw [xrk_u (kd0 hs)]⟩
    · have hg := T_guard0 h1 hx
      have s1 := h1.1.sh
      have s0 := (tinv_z h1).1.1.sh
      simp -implicitDefEqProofs only [m_X10_book, ↓gp0_2, ↓gp0_3, ↓gp0_4, ↓gp0_5, ↓gp0_6, ↓gp0_7, ↓gp0_8, ↓gp0_9, ↓gp0_10, ↓gp0_18, ↓gp0_19, ↓gp0_20, ↓gp0_22, ↓gp23_43, ↓gp23_32, ↓gp23_33, ↓gp23_34, ↓gp23_35, ↓gp23_36, ↓gp29_43, ↓gp29_32, ↓gp29_33, ↓gp29_34, ↓gp29_35, ↓gp29_36, ↓gp54_53, ↓gp54_54, ↓gp54_55, ↓gp54_56, ↓gp54_57, ↓gp54_58, ↓gp54_59, ↓gp54_60, ↓gp54_61, ↓gp54_62, ↓gp54_65, ↓gp54_66, ↓gp54_67, ↓gp54_68, ↓gp54_69, ↓gp54_70, ↓gp54_71, ↓gp54_73, ↓gp54_74, ↓gp54_75, ↓gp54_76, ↓gp54_84, ↓gp54_85, ↓gp54_87, ↓gp54_88, ↓xr59, kr59, ↓xr67, kr67, ↓xr75, kr75, ↓xr82, kr82, ↓xr89, kr89, ↓xr102, kr102, ↓xr115, kr115, ↓xr276, kr276, ↓xr437, kr437, ↓xr444, kr444, ↓xr453, kr453, ↓xr536, kr536, ↓xr553, kr553, hs0, hw0, hs1, hw1, hs2, hw2, hs3, hw3, hs4, hw4, hs5, hw5, hs6, hw6, hs7, hw7, hs8, hw8, hs9, hw9, hs10, hw10, hs11, hw11, hs12, hw12, hs13, hw13, hs14, hw14, hs15, hw15, hs16, hw16, hs17, hw17, hs18, hw18, hs19, hw19, hs20, hw20, hs21, hw21, hs22, hw22, hs23, hw23, hs25, hw25, hs26, hw26, hs27, hw27, hs28, hw28, hs9b, hw9b, hs10b, hw10b, kd0, kd20, kd21, kd22, kd23, kd24, kd25, kd26, kd27, kd28, kd29, kd30, kd31, kd32, kd33, kd34, kd35, kd36, kd37, kd38, kd39, kd40, kd41, kd42, kd54, kd55, kd56, kd57, kd58, kd59, kd67, kd75, kd82, kd89, kd102, kd115, kd276, kd437, kd444, kd451, kd452, kd453, kd534, kd535, kd536, kd553, kd557, kd558, kd559, kd560, kd561, ↓xgI_u, ↓xpI_u, ↓xaI_u, ↓xsI_u, ↓xrk_u, ↓xrk0_u, ↓xob_v, ↓xmb_v, ↓xth_v, ↓xth_x, ↓jn_u, ↓xlen_u, ↓xaL_u, ↓xsL_u, ↓xbl_0, ↓xbl_1, eq_self, inb_n, inb_d, Sh_PI, Sh_PL, dk_PI, dk_PL, dr_PI, dr_PL, ↓reduceIte, Int32.reduceLE, Int32.reduceLT, Int32.reduceToNatClampNeg, Nat.reduceLT, Nat.reduceLeDiff, Nat.reduceEqDiff, Nat.reduceAdd, Nat.reduceMul, s1, s0, hg, if_true, e10, if_false, e]
end CALL
