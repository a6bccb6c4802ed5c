/-! undo -/
/-- with another now, past, images, rest -/
def wSt (A : dvA) (N : Nat → Int32) (P : Nat × (Nat → Nat → Int32)) (I : Nat × (Nat → Nat) × (Nat → Nat → Int32) × (Nat → Nat → Nat → Int32)) (rs : Int32) : dvA := (A.1, A.2.1, A.2.2.1, N, P, I, rs, A.2.2.2.2.2.2.2.1, A.2.2.2.2.2.2.2.2.1, A.2.2.2.2.2.2.2.2.2)
def sUn (b : Nat) : Nat → Nat → Prop := fun a k => (a = b ∧ (k = 11 ∨ k = 12)) ∨ (b + 23 ≤ a ∧ a ≤ b + 28)
def sUt (b : Nat) : Nat → Nat → Prop := fun a k => (a = b + 54 ∧ (k = 78 ∨ k = 79)) ∨ a = b + 534
theorem x_sub1 {n : Nat} (h : ¬ n = 0) : Int32.ofNat n - 1 = Int32.ofNat (n - 1) := i_sub (c := 1) (by omega)
section CALL
variable {b : Nat} {w : Nat → Nat} {M : dwSt} {A : dvA}
theorem wSt_ok {N : Nat → Int32} {P : Nat × (Nat → Nat → Int32)} {I : Nat × (Nat → Nat) × (Nat → Nat → Int32) × (Nat → Nat → Nat → Int32)} {rs : Int32} (h : allOK A) (hN : rowD (aT A) N) (hP : P.1 ≤ 16) (hP2 : ∀ r, r < P.1 → rowD (aT A) (P.2 r)) (hI : I.1 ≤ 3) (hI2 : ∀ i, i < I.1 → I.2.1 i ≤ 16 ∧ rowD (aT A) (I.2.2.1 i) ∧ ∀ r, r < I.2.1 i → rowD (aT A) (I.2.2.2 i r)) : allOK (wSt A N P I rs) := by
  obtain ⟨o1, o2, o3, o4, o5, o6, o7, o8⟩ := h
  exact ⟨o1, o2, hN, hP, hP2, hI, hI2, o8⟩
def undN (A : dvA) : Nat → Int32 := cp79 ((aPa A).2 ((aPa A).1 - 1)) (aNow A)
def aUndo (A : dvA) : dvA := wSt A (undN A) ((aPa A).1 - 1, (aPa A).2) (aIm A) 0
theorem aUndo_ok (h : allOK A) (h0 : ¬ (aPa A).1 = 0) : allOK (aUndo A) := by
  obtain ⟨o1, o2, o3, o4, o5, o6, o7, o8⟩ := id h
  exact wSt_ok h (rowD_c (o5 ((aPa A).1 - 1) (by omega)) o1.1 (fun k hk => cp79_e hk)) (Nat.le_trans (Nat.sub_le _ _) o4) (fun r hr => o5 r (by have : r < (aPa A).1 - 1 := hr; omega)) o6 o7
theorem C_undo (hC : CInv b w M A) (h0 : ¬ (aPa A).1 = 0) : ∃ M1, m_X1_undo M b = some (Int32.ofNat ((aPa A).1 - 1), M1) ∧ CInv b w M1 (aUndo A) ∧ fr (sUn b) nz 0 0 M M1 := by
  have hs := hC.1.sh
  have hn := shN hs
  have o := hC.1.ok
  have o4 := o.2.2.2.1
  obtain ⟨p1, p2, p3⟩ := hC.1.pa
  obtain ⟨s, q1, q2⟩ := p3 ((aPa A).1 - 1) (by omega)
  obtain ⟨g1, g2⟩ : cShp b M s ∧ b + 562 ≤ s := by
    rcases p2 ((aPa A).1 - 1) (by omega) with h | ⟨s', h1, h2, h3, h4⟩
    · rw [h] at q1; cases q1
    · rw [q1] at h1; cases h1; exact ⟨h2, h3⟩
  have fA : fr (sUn b) nz 0 0 M (dwPI M b 11 (Int32.ofNat ((aPa A).1 - 1))) := (fr.refl M).pI _ (Or.inl (Or.inl ⟨rfl, Or.inl rfl⟩))
  have shA := hs.fr fA nz_p
  have hNow : cSea b (dwPI M b 11 (Int32.ofNat ((aPa A).1 - 1))) (b + 23) (tP (aT A)) (aNow A) := hC.1.now.fr (S := fun a k => a = b ∧ k = 11) (Z := nz) ((fr.refl M).pI _ (Or.inl ⟨rfl, rfl⟩)) (fun i k hi => by omega) (fun _ q => q)
  have hOld : cSea b (dwPI M b 11 (Int32.ofNat ((aPa A).1 - 1))) s (tP (aT A)) ((aPa A).2 ((aPa A).1 - 1)) := cSea.fr (S := fun a k => a = b ∧ k = 11) (Z := nz) ⟨g1, q2⟩ ((fr.refl M).pI _ (Or.inl ⟨rfl, rfl⟩)) (fun i k hi => by omega) (fun _ q => q)
  obtain ⟨M2, e2, f2, h2⟩ := c_becomes hNow.1 hOld (by omega)
  have f2' : fr (sUn b) nz 0 0 M M2 := fA.t0 (f2.mono (fun a k q => by unfold sSe at q; unfold sUn; omega) (fun _ _ q => q) (Nat.le_refl _) (Nat.le_refl _))
  have f3 : fr (sUn b) nz 0 0 M (dwPI M2 b 12 0) := f2'.pI _ (Or.inl (Or.inl ⟨rfl, Or.inr rfl⟩))
  have sh2 := hs.fr f2' nz_p
  have sh3 := hs.fr f3 nz_p
  have e11 : dwI M2 b 11 = Int32.ofNat ((aPa A).1 - 1) := (f2.i (by show b < dwN M; omega) (by unfold sSe; omega)).trans di_eq
  have ar : ∀ {ρ : Type} (K : Nat → Option ρ), xaR (dwPI M b 11 (Int32.ofNat ((aPa A).1 - 1))) 5 (b + 35) (Int32.ofNat ((aPa A).1 - 1)) K = K s := fun K => xaR_v (kd35 shA) (by omega) (by omega) q1 K
  refine ⟨_, ?_, ?_, f3⟩
  · have z0 : (Int32.ofNat (aPa A).1 = 0) = False := by rw [x_z0 (by omega)]; exact eq_false h0
    simp -implicitDefEqProofs only [m_X1_undo, ↓gp0_2, ↓gp0_3, ↓gp0_4, ↓gp0_5, ↓gp0_6, ↓gp0_7, ↓gp0_8, ↓gp0_9, ↓gp0_10, ↓gp0_18, ↓gp0_19, ↓gp0_20, ↓gp0_22, ↓gp23_43, ↓gp23_32, ↓gp23_33, ↓gp23_34, ↓gp23_35, ↓gp23_36, ↓gp29_43, ↓gp29_32, ↓gp29_33, ↓gp29_34, ↓gp29_35, ↓gp29_36, ↓gp54_53, ↓gp54_54, ↓gp54_55, ↓gp54_56, ↓gp54_57, ↓gp54_58, ↓gp54_59, ↓gp54_60, ↓gp54_61, ↓gp54_62, ↓gp54_65, ↓gp54_66, ↓gp54_67, ↓gp54_68, ↓gp54_69, ↓gp54_70, ↓gp54_71, ↓gp54_73, ↓gp54_74, ↓gp54_75, ↓gp54_76, ↓gp54_84, ↓gp54_85, ↓gp54_87, ↓gp54_88, ↓xr59, kr59, ↓xr67, kr67, ↓xr75, kr75, ↓xr82, kr82, ↓xr89, kr89, ↓xr102, kr102, ↓xr115, kr115, ↓xr276, kr276, ↓xr437, kr437, ↓xr444, kr444, ↓xr453, kr453, ↓xr536, kr536, ↓xr553, kr553, hs0, hw0, hs1, hw1, hs2, hw2, hs3, hw3, hs4, hw4, hs5, hw5, hs6, hw6, hs7, hw7, hs8, hw8, hs9, hw9, hs10, hw10, hs11, hw11, hs12, hw12, hs13, hw13, hs14, hw14, hs15, hw15, hs16, hw16, hs17, hw17, hs18, hw18, hs19, hw19, hs20, hw20, hs21, hw21, hs22, hw22, hs23, hw23, hs25, hw25, hs26, hw26, hs27, hw27, hs28, hw28, hs9b, hw9b, hs10b, hw10b, kd0, kd20, kd21, kd22, kd23, kd24, kd25, kd26, kd27, kd28, kd29, kd30, kd31, kd32, kd33, kd34, kd35, kd36, kd37, kd38, kd39, kd40, kd41, kd42, kd54, kd55, kd56, kd57, kd58, kd59, kd67, kd75, kd82, kd89, kd102, kd115, kd276, kd437, kd444, kd451, kd452, kd453, kd534, kd535, kd536, kd553, kd557, kd558, kd559, kd560, kd561, ↓xgI_u, ↓xpI_u, ↓xaI_u, ↓xsI_u, ↓xrk_u, ↓xrk0_u, ↓xob_v, ↓xmb_v, ↓xth_v, ↓xth_x, ↓jn_u, ↓xlen_u, ↓xaL_u, ↓xsL_u, ↓xbl_0, ↓xbl_1, eq_self, inb_n, inb_d, Sh_PI, Sh_PL, dk_PI, dk_PL, dr_PI, dr_PL, ↓reduceIte, Int32.reduceLE, Int32.reduceLT, Int32.reduceToNatClampNeg, Nat.reduceLT, Nat.reduceLeDiff, Nat.reduceEqDiff, Nat.reduceAdd, Nat.reduceMul, hs, p1, z0, if_false, x_sub1 h0, di_PI, and_self, if_true, hNow.1.2.1, ar, e2, sh2, sh3, show ¬ (11 = 12) by omega, and_false, e11]
  · have hF : cFree b w (sUn b) := fun a k q hi => by unfold sUn at q; unfold imf at hi; omega
    have e11' : dwI (dwPI M2 b 12 0) b 11 = Int32.ofNat ((aPa A).1 - 1) := by rw [di_PI, if_neg (by omega)]; exact e11
    have fP : cPaP b w (dwPI M2 b 12 0) (tP (aT A)) ((aPa A).1 - 1, (aPa A).2) := ⟨e11', fun r hr => cslot_g (p2 r hr) (by omega) f3 (fun q => q) (fun _ _ _ _ q => q), fun r hr => by
      have hr' : r < (aPa A).1 - 1 := hr
      exact chas_g (p3 r (by omega)) (p2 r (by omega)) (by omega) f3 (fun q => q) (fun a j ha q => by unfold sUn; omega)⟩
    have hN3 : cSea b (dwPI M2 b 12 0) (b + 23) (tP (aT A)) (undN A) := by
      have := h2.fr (S := fun a k => a = b ∧ k = 12) (Z := nz) ((fr.refl M2).pI (a := b) (k := 12) 0 (Or.inl ⟨rfl, rfl⟩)) (fun i k hi => by omega) (fun _ q => q)
      exact ⟨this.1, cRow_c this.2 o.1.1 (fun k hk => cp79_e hk)⟩
    refine ⟨cCore_mk sh3 (hC.1.told.fr hs f3 hF nz_f (fun q => q)) (hC.1.law.fr hs f3 hF nz_f (fun q => q)) (hC.1.bk.fr hs f3 (by unfold sUn; omega) (fun k => by unfold sUn; omega)) hN3 fP (hC.1.im.fr hs o.2.2.2.2.2.1 (fun i hi => (o.2.2.2.2.2.2.1 i hi).1) f3 (by unfold sUn; omega) (fun k => ⟨fun q => q, fun q => q, by unfold sUn; omega⟩) (fun a j ha _ _ => ⟨by unfold sUn; omega, fun q => q⟩)) di_eq ((f3.i (by omega) (by unfold sUn; omega)).trans hC.1.pl) (hC.1.tx.fr hs f3 (by unfold sUn; omega) (fun k => by unfold sUn; omega)) (aUndo_ok o h0), (f3.i (by omega) (by unfold sUn; omega)).trans hC.2.1, (f3.i (by omega) (by unfold sUn; omega)).trans hC.2.2⟩
theorem T_undo (hT : TInv b M A) (h0 : ¬ (aPa A).1 = 0) : ∃ M1, m_X10_undo M (b + 54) = some (Int32.ofNat ((aPa A).1 - 1), M1) ∧ TInv b M1 (aUndo A) ∧ fr (tW b) nz 0 0 M M1 := by
  obtain ⟨hT0, fz, zz⟩ := tinv_z hT
  have sh0 := hT0.1.sh
  have hn := shN sh0
  have o := hT0.1.ok
  have o4 := o.2.2.2.1
  obtain ⟨p1, p3⟩ := hT0.1.pa
  have z0 : (Int32.ofNat (aPa A).1 = 0) = False := by rw [x_z0 (by omega)]; exact eq_false h0
  have hi : (aPa A).1 - 1 < 16 := by omega
  have fA : fr (sUt b) nz 0 0 (dwPI M (b + 54) 44 0) (dwPI (dwPI M (b + 54) 44 0) (b + 54) 78 (Int32.ofNat ((aPa A).1 - 1))) := (fr.refl _).pI _ (Or.inl (Or.inl ⟨rfl, Or.inl rfl⟩))
  have shA := sh0.fr fA nz_p
  obtain ⟨M2, e2, f2, h2⟩ := t_copies (M := dwPI (dwPI M (b + 54) 44 0) (b + 54) 78 (Int32.ofNat ((aPa A).1 - 1))) (a := b + 537 + ((aPa A).1 - 1)) (c := b + 534) (kr536 shA _ hi) (kd534 shA) (by omega) (by show _ < dwN (dwPI M (b + 54) 44 0); omega) (by show _ < dwN (dwPI M (b + 54) 44 0); omega)
  have f2' : fr (sUt b) nz 0 0 (dwPI M (b + 54) 44 0) M2 := fA.t0 (f2.mono (fun a k q => by unfold sRow at q; unfold sUt; omega) (fun _ _ q => q) (Nat.le_refl _) (Nat.le_refl _))
  have f3 : fr (sUt b) nz 0 0 (dwPI M (b + 54) 44 0) (dwPI M2 (b + 54) 79 0) := f2'.pI _ (Or.inl (Or.inl ⟨rfl, Or.inr rfl⟩))
  have sh2 := sh0.fr f2' nz_p
  have sh3 := sh0.fr f3 nz_p
  have e78 : dwI M2 (b + 54) 78 = Int32.ofNat ((aPa A).1 - 1) := (f2.i (by show b + 54 < dwN M; have := shN hT.1.sh; omega) (by unfold sRow; omega)).trans di_eq
  refine ⟨_, ?_, ?_, fz.t0 (f3.mono (fun a k q => by unfold sUt at q; unfold tW; omega) (fun _ _ q => q) (Nat.le_refl _) (Nat.le_refl _))⟩
  · simp -implicitDefEqProofs only [m_X10_undo, ↓gp0_2, ↓gp0_3, ↓gp0_4, ↓gp0_5, ↓gp0_6, ↓gp0_7, ↓gp0_8, ↓gp0_9, ↓gp0_10, ↓gp0_18, ↓gp0_19, ↓gp0_20, ↓gp0_22, ↓gp23_43, ↓gp23_32, ↓gp23_33, ↓gp23_34, ↓gp23_35, ↓gp23_36, ↓gp29_43, ↓gp29_32, ↓gp29_33, ↓gp29_34, ↓gp29_35, ↓gp29_36, ↓gp54_53, ↓gp54_54, ↓gp54_55, ↓gp54_56, ↓gp54_57, ↓gp54_58, ↓gp54_59, ↓gp54_60, ↓gp54_61, ↓gp54_62, ↓gp54_65, ↓gp54_66, ↓gp54_67, ↓gp54_68, ↓gp54_69, ↓gp54_70, ↓gp54_71, ↓gp54_73, ↓gp54_74, ↓gp54_75, ↓gp54_76, ↓gp54_84, ↓gp54_85, ↓gp54_87, ↓gp54_88, ↓xr59, kr59, ↓xr67, kr67, ↓xr75, kr75, ↓xr82, kr82, ↓xr89, kr89, ↓xr102, kr102, ↓xr115, kr115, ↓xr276, kr276, ↓xr437, kr437, ↓xr444, kr444, ↓xr453, kr453, ↓xr536, kr536, ↓xr553, kr553, hs0, hw0, hs1, hw1, hs2, hw2, hs3, hw3, hs4, hw4, hs5, hw5, hs6, hw6, hs7, hw7, hs8, hw8, hs9, hw9, hs10, hw10, hs11, hw11, hs12, hw12, hs13, hw13, hs14, hw14, hs15, hw15, hs16, hw16, hs17, hw17, hs18, hw18, hs19, hw19, hs20, hw20, hs21, hw21, hs22, hw22, hs23, hw23, hs25, hw25, hs26, hw26, hs27, hw27, hs28, hw28, hs9b, hw9b, hs10b, hw10b, kd0, kd20, kd21, kd22, kd23, kd24, kd25, kd26, kd27, kd28, kd29, kd30, kd31, kd32, kd33, kd34, kd35, kd36, kd37, kd38, kd39, kd40, kd41, kd42, kd54, kd55, kd56, kd57, kd58, kd59, kd67, kd75, kd82, kd89, kd102, kd115, kd276, kd437, kd444, kd451, kd452, kd453, kd534, kd535, kd536, kd553, kd557, kd558, kd559, kd560, kd561, ↓xgI_u, ↓xpI_u, ↓xaI_u, ↓xsI_u, ↓xrk_u, ↓xrk0_u, ↓xob_v, ↓xmb_v, ↓xth_v, ↓xth_x, ↓jn_u, ↓xlen_u, ↓xaL_u, ↓xsL_u, ↓xbl_0, ↓xbl_1, eq_self, inb_n, inb_d, Sh_PI, Sh_PL, dk_PI, dk_PL, dr_PI, dr_PL, ↓reduceIte, Int32.reduceLE, Int32.reduceLT, Int32.reduceToNatClampNeg, Nat.reduceLT, Nat.reduceLeDiff, Nat.reduceEqDiff, Nat.reduceAdd, Nat.reduceMul, hT.1.sh, sh0, shA, p1, z0, if_false, x_sub1 h0, di_PI, and_self, if_true, hi, e2, sh2, sh3, show ¬ (78 = 79) by omega, and_false, e78]
  · have hF : tFree b (sUt b) := fun a k q => by unfold sUt at q; omega
    have hrow : dwI M2 (b + 534) = undN A := by
      rw [h2]
      have e534 : dwI (dwPI (dwPI M (b + 54) 44 0) (b + 54) 78 (Int32.ofNat ((aPa A).1 - 1))) (b + 534) = aNow A := by
        rw [← hT0.1.now]
        exact funext fun k => by rw [di_PI, if_neg (by omega)]
      unfold undN cp79
      funext k
      by_cases hk : k < 79
      · rw [if_pos hk, if_pos hk, di_PI, if_neg (by omega)]
        exact p3 _ k (by omega) hk
      · rw [if_neg hk, if_neg hk, e534]
    refine ⟨tCore_mk sh3 (hT0.1.told.fr sh0 f3 hF) (hT0.1.law.fr sh0 f3 hF) (hT0.1.bk.fr sh0 o.2.1.1 f3 (by unfold sUt; omega) (fun a k h1 h2 => by unfold sUt; omega)) ?_ ⟨?_, fun r k hr hk => ?_⟩ (hT0.1.im.fr sh0 o.2.2.2.2.2.1 f3 (by unfold sUt; omega) (fun a k h1 h2 => by unfold sUt; omega)) di_eq ((f3.i (by omega) (by unfold sUt; omega)).trans hT0.1.pl) (hT0.1.tx.fr sh0 f3 (by unfold sUt; omega) (fun k => by unfold sUt; omega)) (aUndo_ok o h0), (f3.i (by omega) (by unfold sUt; omega)).trans hT0.2.1, (f3.i (by omega) (by unfold sUt; omega)).trans hT0.2.2⟩
    · funext k; rw [di_PI, if_neg (by omega), hrow]; rfl
    · rw [di_PI, if_neg (by omega)]; exact e78
    · have hr' : r < (aPa A).1 - 1 := hr
      exact (f3.i (by omega) (by unfold sUt; omega)).trans (p3 r k (by omega) hk)
theorem call_undo (hC : CInv b w M A) (hT : TInv b M A) : agree2 b M (fun M => m_X1_undo M b) (fun M => m_X10_undo M (b + 54)) := by
  have o4 := hC.1.ok.2.2.2.1
  by_cases h0 : (aPa A).1 = 0
  · have z0 : (Int32.ofNat (aPa A).1 = 0) = True := by rw [x_z0 (by omega)]; exact eq_true h0
    refine agree2_mk (A' := A) (v := -1) hT ⟨M, w, ?_, hC, (fr.refl M).mono (fun _ _ q => False.elim q) (fun _ _ q => False.elim q) (by omega) (by omega)⟩ fun M1 h1 => ?_
    · simp -implicitDefEqProofs only [m_X1_undo, ↓gp0_2, ↓gp0_3, ↓gp0_4, ↓gp0_5, ↓gp0_6, ↓gp0_7, ↓gp0_8, ↓gp0_9, ↓gp0_10, ↓gp0_18, ↓gp0_19, ↓gp0_20, ↓gp0_22, ↓gp23_43, ↓gp23_32, ↓gp23_33, ↓gp23_34, ↓gp23_35, ↓gp23_36, ↓gp29_43, ↓gp29_32, ↓gp29_33, ↓gp29_34, ↓gp29_35, ↓gp29_36, ↓gp54_53, ↓gp54_54, ↓gp54_55, ↓gp54_56, ↓gp54_57, ↓gp54_58, ↓gp54_59, ↓gp54_60, ↓gp54_61, ↓gp54_62, ↓gp54_65, ↓gp54_66, ↓gp54_67, ↓gp54_68, ↓gp54_69, ↓gp54_70, ↓gp54_71, ↓gp54_73, ↓gp54_74, ↓gp54_75, ↓gp54_76, ↓gp54_84, ↓gp54_85, ↓gp54_87, ↓gp54_88, ↓xr59, kr59, ↓xr67, kr67, ↓xr75, kr75, ↓xr82, kr82, ↓xr89, kr89, ↓xr102, kr102, ↓xr115, kr115, ↓xr276, kr276, ↓xr437, kr437, ↓xr444, kr444, ↓xr453, kr453, ↓xr536, kr536, ↓xr553, kr553, hs0, hw0, hs1, hw1, hs2, hw2, hs3, hw3, hs4, hw4, hs5, hw5, hs6, hw6, hs7, hw7, hs8, hw8, hs9, hw9, hs10, hw10, hs11, hw11, hs12, hw12, hs13, hw13, hs14, hw14, hs15, hw15, hs16, hw16, hs17, hw17, hs18, hw18, hs19, hw19, hs20, hw20, hs21, hw21, hs22, hw22, hs23, hw23, hs25, hw25, hs26, hw26, hs27, hw27, hs28, hw28, hs9b, hw9b, hs10b, hw10b, kd0, kd20, kd21, kd22, kd23, kd24, kd25, kd26, kd27, kd28, kd29, kd30, kd31, kd32, kd33, kd34, kd35, kd36, kd37, kd38, kd39, kd40, kd41, kd42, kd54, kd55, kd56, kd57, kd58, kd59, kd67, kd75, kd82, kd89, kd102, kd115, kd276, kd437, kd444, kd451, kd452, kd453, kd534, kd535, kd536, kd553, kd557, kd558, kd559, kd560, kd561, ↓xgI_u, ↓xpI_u, ↓xaI_u, ↓xsI_u, ↓xrk_u, ↓xrk0_u, ↓xob_v, ↓xmb_v, ↓xth_v, ↓xth_x, ↓jn_u, ↓xlen_u, ↓xaL_u, ↓xsL_u, ↓xbl_0, ↓xbl_1, eq_self, inb_n, inb_d, Sh_PI, Sh_PL, dk_PI, dk_PL, dr_PI, dr_PL, ↓reduceIte, Int32.reduceLE, Int32.reduceLT, Int32.reduceToNatClampNeg, Nat.reduceLT, Nat.reduceLeDiff, Nat.reduceEqDiff, Nat.reduceAdd, Nat.reduceMul, hC.1.sh, hC.1.pa.1, z0, if_true]
    · obtain ⟨hT0, fz, zz⟩ := tinv_z h1
      exact ⟨_, by simp -implicitDefEqProofs only [m_X10_undo, ↓gp0_2, ↓gp0_3, ↓gp0_4, ↓gp0_5, ↓gp0_6, ↓gp0_7, ↓gp0_8, ↓gp0_9, ↓gp0_10, ↓gp0_18, ↓gp0_19, ↓gp0_20, ↓gp0_22, ↓gp23_43, ↓gp23_32, ↓gp23_33, ↓gp23_34, ↓gp23_35, ↓gp23_36, ↓gp29_43, ↓gp29_32, ↓gp29_33, ↓gp29_34, ↓gp29_35, ↓gp29_36, ↓gp54_53, ↓gp54_54, ↓gp54_55, ↓gp54_56, ↓gp54_57, ↓gp54_58, ↓gp54_59, ↓gp54_60, ↓gp54_61, ↓gp54_62, ↓gp54_65, ↓gp54_66, ↓gp54_67, ↓gp54_68, ↓gp54_69, ↓gp54_70, ↓gp54_71, ↓gp54_73, ↓gp54_74, ↓gp54_75, ↓gp54_76, ↓gp54_84, ↓gp54_85, ↓gp54_87, ↓gp54_88, ↓xr59, kr59, ↓xr67, kr67, ↓xr75, kr75, ↓xr82, kr82, ↓xr89, kr89, ↓xr102, kr102, ↓xr115, kr115, ↓xr276, kr276, ↓xr437, kr437, ↓xr444, kr444, ↓xr453, kr453, ↓xr536, kr536, ↓xr553, kr553, hs0, hw0, hs1, hw1, hs2, hw2, hs3, hw3, hs4, hw4, hs5, hw5, hs6, hw6, hs7, hw7, hs8, hw8, hs9, hw9, hs10, hw10, hs11, hw11, hs12, hw12, hs13, hw13, hs14, hw14, hs15, hw15, hs16, hw16, hs17, hw17, hs18, hw18, hs19, hw19, hs20, hw20, hs21, hw21, hs22, hw22, hs23, hw23, hs25, hw25, hs26, hw26, hs27, hw27, hs28, hw28, hs9b, hw9b, hs10b, hw10b, kd0, kd20, kd21, kd22, kd23, kd24, kd25, kd26, kd27, kd28, kd29, kd30, kd31, kd32, kd33, kd34, kd35, kd36, kd37, kd38, kd39, kd40, kd41, kd42, kd54, kd55, kd56, kd57, kd58, kd59, kd67, kd75, kd82, kd89, kd102, kd115, kd276, kd437, kd444, kd451, kd452, kd453, kd534, kd535, kd536, kd553, kd557, kd558, kd559, kd560, kd561, ↓xgI_u, ↓xpI_u, ↓xaI_u, ↓xsI_u, ↓xrk_u, ↓xrk0_u, ↓xob_v, ↓xmb_v, ↓xth_v, ↓xth_x, ↓jn_u, ↓xlen_u, ↓xaL_u, ↓xsL_u, ↓xbl_0, ↓xbl_1, eq_self, inb_n, inb_d, Sh_PI, Sh_PL, dk_PI, dk_PL, dr_PI, dr_PL, ↓reduceIte, Int32.reduceLE, Int32.reduceLT, Int32.reduceToNatClampNeg, Nat.reduceLT, Nat.reduceLeDiff, Nat.reduceEqDiff, Nat.reduceAdd, Nat.reduceMul, h1.1.sh, hT0.1.sh, hT0.1.pa.1, z0, if_true], hT0, fz⟩
  · refine agree2_mk (A' := aUndo A) (v := Int32.ofNat ((aPa A).1 - 1)) hT ?_ fun M1 h1 => T_undo h1 h0
    obtain ⟨M1, e, c, f⟩ := C_undo hC h0
    exact ⟨M1, w, e, c, f.mono (fun a k q => by unfold sUn at q; unfold cWo; omega) (fun _ _ q => False.elim q) (by omega) (by omega)⟩
end CALL
