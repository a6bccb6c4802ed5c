/-! feed -/
def fbS (x : Int32) (t : Nat) : Int32 := (x >>> ((24 - (8 * Int32.ofNat t)) &&& 31)) &&& 255
theorem b_and (y : Int32) : (y &&& 255).toInt8.toInt32 = y.toInt8.toInt32.toInt8.toInt32 := by
  rw [Int8.toInt8_toInt32, Int32.toInt8_and]
  have : (255 : Int32).toInt8 = -1 := by decide
  rw [this, Int8.and_neg_one]
theorem b_lt (y : Int32) : ∃ v, v < 256 ∧ y &&& 255 = Int32.ofNat v := by
  refine ⟨y.toBitVec.toNat &&& 255, Nat.lt_of_le_of_lt Nat.and_le_right (by omega), ?_⟩
  apply Int32.toBitVec.inj
  rw [Int32.toBitVec_and, Int32.toBitVec_ofNat']
  apply BitVec.eq_of_toNat_eq
  rw [BitVec.toNat_and, BitVec.toNat_ofNat, Nat.mod_eq_of_lt]
  · rfl
  · exact Nat.lt_of_le_of_lt Nat.and_le_right (by omega)
theorem p_up : ∀ t, t < 4 → (24 : Int32) - (8 * Int32.ofNat t) + (-8) = 24 - (8 * Int32.ofNat (t + 1)) ∧ ¬ (24 : Int32) - (8 * Int32.ofNat t) < 0 := by decide
theorem p_end : ((24 : Int32) - (8 * Int32.ofNat 4) < 0) = True := eq_true (by decide)
theorem p_r4 : ∀ i, i < 20 → Int32.ofNat i - Int32.ofNat i / 4 * 4 = Int32.ofNat (i % 4) := by decide
theorem e40 : ((4 : Int32) = 0) = False := eq_false (by decide)
def sFd (b : Nat) : Nat → Nat → Prop := fun a k => (a = b ∧ k = 15) ∨ a = b + 39
def sFt (b : Nat) : Nat → Nat → Prop := fun a k => (a = b + 54 ∧ k = 45) ∨ a = b + 55
def feS (n : Nat) (X : Nat → Int32) (x0 x1 x2 x3 x4 : Int32) : Nat → Int32 := fun k => if k < n then X k else if k < n + 4 then fbS x0 (k - n) else if k < n + 8 then fbS x1 (k - n - 4) else if k < n + 12 then fbS x2 (k - n - 8) else if k < n + 16 then fbS x3 (k - n - 12) else fbS x4 (k - n - 16)
/-- with another tape -/
def wTx (A : dvA) (X : Nat × (Nat → Int32)) : dvA := (A.1, A.2.1, A.2.2.1, A.2.2.2.1, A.2.2.2.2.1, A.2.2.2.2.2.1, A.2.2.2.2.2.2.1, A.2.2.2.2.2.2.2.1, X, A.2.2.2.2.2.2.2.2.2)
def txOK (X : Nat × (Nat → Int32)) : Prop := X.1 ≤ 600 ∧ ∀ k, k < X.1 → ∃ v, v < 256 ∧ X.2 k = Int32.ofNat v
def feX (A : dvA) (x0 x1 x2 x3 x4 : Int32) : Nat × (Nat → Int32) := ((aTx A).1 + 20, feS (aTx A).1 (aTx A).2 x0 x1 x2 x3 x4)
section CALL
variable {b : Nat} {w : Nat → Nat} {M : dwSt} {A : dvA}
def cFd (b : Nat) (M : dwSt) (X : Nat → Int32) (n : Nat) (M1 : dwSt) : Prop := fr (sFd b) nz 0 0 M M1 ∧ cTxP b M1 (n, X)
theorem c_put {X : Nat → Int32} {n : Nat} {M1 : dwSt} {x : Int32} (hs : Sh b M) (h : cFd b M X n M1) (hx : ∀ t, t < 4 → X (n + t) = fbS x t) (hn : n + 4 ≤ 600) : ∃ M2, m_X1_put M1 b x = some ((), M2) ∧ cFd b M X (n + 4) M2 := by
  simp -implicitDefEqProofs only [m_X1_put, jn_u]
  have e0 : (24 : Int32) = 24 - (8 * Int32.ofNat 0) := by decide
  rw [e0]
  refine lpx (E := fun z => ∃ M2, z = some ((), M2) ∧ cFd b M X (n + 4) M2) (fun f t (M2 : dwSt) => L_X1_put_3 b x (fun (M1 : dwSt) => some ((), M1)) f (24 - (8 * Int32.ofNat t)) M2) 4 (fun t M2 => cFd b M X (n + t) M2) ?_ ?_ 1000000 0 M1 (by omega) (by omega) h
  · intro f M2 h2
    refine ⟨M2, ?_, h2⟩
    simp -implicitDefEqProofs only [L_X1_put_3, p_end, if_true]
  · intro f t M2 ht ⟨h2, h3, h4⟩ hnx
    have hs2 := hs.fr h2 nz_p
    have hN := shN hs2
    obtain ⟨e1, e2⟩ := p_up t ht
    have h3' : dwI M2 b 15 = Int32.ofNat (n + t) := h3
    simp -implicitDefEqProofs only [L_X1_put_3, ↓gp0_2, ↓gp0_3, ↓gp0_4, ↓gp0_5, ↓gp0_6, ↓gp0_7, ↓gp0_8, ↓gp0_9, ↓gp0_10, ↓gp0_18, ↓gp0_19, ↓gp0_20, ↓gp0_22, ↓gp23_43, ↓gp23_32, ↓gp23_33, ↓gp23_34, ↓gp23_35, ↓gp23_36, ↓gp29_43, ↓gp29_32, ↓gp29_33, ↓gp29_34, ↓gp29_35, ↓gp29_36, ↓gp54_53, ↓gp54_54, ↓gp54_55, ↓gp54_56, ↓gp54_57, ↓gp54_58, ↓gp54_59, ↓gp54_60, ↓gp54_61, ↓gp54_62, ↓gp54_65, ↓gp54_66, ↓gp54_67, ↓gp54_68, ↓gp54_69, ↓gp54_70, ↓gp54_71, ↓gp54_73, ↓gp54_74, ↓gp54_75, ↓gp54_76, ↓gp54_84, ↓gp54_85, ↓gp54_87, ↓gp54_88, ↓xr59, kr59, ↓xr67, kr67, ↓xr75, kr75, ↓xr82, kr82, ↓xr89, kr89, ↓xr102, kr102, ↓xr115, kr115, ↓xr276, kr276, ↓xr437, kr437, ↓xr444, kr444, ↓xr453, kr453, ↓xr536, kr536, ↓xr553, kr553, hs0, hw0, hs1, hw1, hs2, hw2, hs3, hw3, hs4, hw4, hs5, hw5, hs6, hw6, hs7, hw7, hs8, hw8, hs9, hw9, hs10, hw10, hs11, hw11, hs12, hw12, hs13, hw13, hs14, hw14, hs15, hw15, hs16, hw16, hs17, hw17, hs18, hw18, hs19, hw19, hs20, hw20, hs21, hw21, hs22, hw22, hs23, hw23, hs25, hw25, hs26, hw26, hs27, hw27, hs28, hw28, hs9b, hw9b, hs10b, hw10b, kd0, kd20, kd21, kd22, kd23, kd24, kd25, kd26, kd27, kd28, kd29, kd30, kd31, kd32, kd33, kd34, kd35, kd36, kd37, kd38, kd39, kd40, kd41, kd42, kd54, kd55, kd56, kd57, kd58, kd59, kd67, kd75, kd82, kd89, kd102, kd115, kd276, kd437, kd444, kd451, kd452, kd453, kd534, kd535, kd536, kd553, kd557, kd558, kd559, kd560, kd561, ↓xgI_u, ↓xpI_u, ↓xaI_u, ↓xsI_u, ↓xrk_u, ↓xrk0_u, ↓xob_v, ↓xmb_v, ↓xth_v, ↓xth_x, ↓jn_u, ↓xlen_u, ↓xaL_u, ↓xsL_u, ↓xbl_0, ↓xbl_1, eq_self, inb_n, inb_d, Sh_PI, Sh_PL, dk_PI, dk_PL, dr_PI, dr_PL, ↓reduceIte, Int32.reduceLE, Int32.reduceLT, Int32.reduceToNatClampNeg, Nat.reduceLT, Nat.reduceLeDiff, Nat.reduceEqDiff, Nat.reduceAdd, Nat.reduceMul, xsB_u, hs2, kd0 hs2, kd39 hs2, e2, if_false, h3', show n + t < 600 by omega, e1, i_nat (show n + t < 2147483648 by omega), di_PI, show ¬ (b = b + 39) by omega, false_and, i_succ]
    refine hnx _ ⟨(h2.pI _ (Or.inl (Or.inr rfl))).pI _ (Or.inl (Or.inl ⟨rfl, rfl⟩)), ?_, ?_⟩
    · rw [di_PI, if_pos ⟨rfl, rfl⟩]; rfl
    · intro k hk
      rw [di_PI, if_neg (by omega), di_PI]
      by_cases hkt : k = n + t
      · rw [if_pos ⟨rfl, hkt⟩]
        show _ = (X k).toInt8.toInt32
        rw [hkt, hx t ht]
        unfold fbS
        rw [b_and]
      · rw [if_neg (fun q => hkt q.2)]
        exact h4 k (by show k < n + t; have : k < n + (t + 1) := hk; omega)
theorem wTx_ok {X : Nat × (Nat → Int32)} (h : allOK A) (hX : txOK X) : allOK (wTx A X) := by
  obtain ⟨o1, o2, o3, o4, o5, o6, o7, o8⟩ := h
  exact ⟨o1, o2, o3, o4, o5, o6, o7, hX.1, hX.2⟩
theorem cinv_tx {X : Nat × (Nat → Int32)} {M1 : dwSt} (h : CInv b w M A) (f : fr (sFd b) nz 0 0 M M1) (hX : cTxP b M1 X) (hO : txOK X) : CInv b w M1 (wTx A X) := by
  have hs := h.1.sh
  have hn := shN hs
  have hF : cFree b w (sFd b) := fun a k q hi => by unfold sFd at q; unfold imf at hi; omega
  have o := h.1.ok
  refine ⟨cCore_mk (hs.fr f nz_p) (h.1.told.fr hs f hF nz_f (fun q => q)) (h.1.law.fr hs f hF nz_f (fun q => q)) (h.1.bk.fr hs f (by unfold sFd; omega) (fun k => by unfold sFd; omega)) (h.1.now.fr f (fun i k hi => by unfold sFd; omega) (fun _ q => q)) (h.1.pa.fr hs o.2.2.2.1 f (by unfold sFd; omega) (fun _ q => q) (fun a j ha _ _ => ⟨by unfold sFd; omega, fun q => q⟩)) (h.1.im.fr hs o.2.2.2.2.2.1 (fun i hi => (o.2.2.2.2.2.2.1 i hi).1) f (by unfold sFd; omega) (fun k => ⟨fun q => q, fun q => q, by unfold sFd; omega⟩) (fun a j ha _ _ => ⟨by unfold sFd; omega, fun q => q⟩)) ((f.i (by omega) (by unfold sFd; omega)).trans h.1.rs) ((f.i (by omega) (by unfold sFd; omega)).trans h.1.pl) hX (wTx_ok o hO), (f.i (by omega) (by unfold sFd; omega)).trans h.2.1, (f.i (by omega) (by unfold sFd; omega)).trans h.2.2⟩
theorem tinv_tx {X : Nat × (Nat → Int32)} {M1 : dwSt} (h : TInv b M A) (f : fr (sFt b) nz 0 0 M M1) (hX : tTxP b M1 X) (hO : txOK X) : TInv b M1 (wTx A X) := by
  have hs := h.1.sh
  have hn := shN hs
  have hF : tFree b (sFt b) := fun a k q => by unfold sFt at q; omega
  have o := h.1.ok
  refine ⟨tCore_mk (hs.fr f nz_p) (h.1.told.fr hs f hF) (h.1.law.fr hs f hF) (h.1.bk.fr hs o.2.1.1 f (by unfold sFt; omega) (fun a k h1 h2 => by unfold sFt; omega)) ((f.if (by omega) (fun k => by unfold sFt; omega)).trans h.1.now) (h.1.pa.fr hs o.2.2.2.1 f (by unfold sFt; omega) (fun a k h1 h2 => by unfold sFt; omega)) (h.1.im.fr hs o.2.2.2.2.2.1 f (by unfold sFt; omega) (fun a k h1 h2 => by unfold sFt; omega)) ((f.i (by omega) (by unfold sFt; omega)).trans h.1.rs) ((f.i (by omega) (by unfold sFt; omega)).trans h.1.pl) hX (wTx_ok o hO), (f.i (by omega) (by unfold sFt; omega)).trans h.2.1, (f.i (by omega) (by unfold sFt; omega)).trans h.2.2⟩
theorem feS_e {n : Nat} {X : Nat → Int32} {x0 x1 x2 x3 x4 : Int32} : (∀ k, k < n → feS n X x0 x1 x2 x3 x4 k = X k) ∧ (∀ t, t < 4 → feS n X x0 x1 x2 x3 x4 (n + t) = fbS x0 t) ∧ (∀ t, t < 4 → feS n X x0 x1 x2 x3 x4 (n + 4 + t) = fbS x1 t) ∧ (∀ t, t < 4 → feS n X x0 x1 x2 x3 x4 (n + 8 + t) = fbS x2 t) ∧ (∀ t, t < 4 → feS n X x0 x1 x2 x3 x4 (n + 12 + t) = fbS x3 t) ∧ (∀ t, t < 4 → feS n X x0 x1 x2 x3 x4 (n + 16 + t) = fbS x4 t) := by
  unfold feS
  refine ⟨fun k h => by rw [if_pos h], fun t h => ?_, fun t h => ?_, fun t h => ?_, fun t h => ?_, fun t h => ?_⟩
  · rw [if_neg (by omega), if_pos (by omega)]; congr 1; omega
  · rw [if_neg (by omega), if_neg (by omega), if_pos (by omega)]; congr 1; omega
  · rw [if_neg (by omega), if_neg (by omega), if_neg (by omega), if_pos (by omega)]; congr 1; omega
  · rw [if_neg (by omega), if_neg (by omega), if_neg (by omega), if_neg (by omega), if_pos (by omega)]; congr 1; omega
  · rw [if_neg (by omega), if_neg (by omega), if_neg (by omega), if_neg (by omega), if_neg (by omega)]; congr 1; omega
theorem feX_ok {x0 x1 x2 x3 x4 : Int32} (h : allOK A) (hn : (aTx A).1 + 20 ≤ 600) : txOK (feX A x0 x1 x2 x3 x4) := by
  refine ⟨hn, fun k hk => ?_⟩
  show ∃ v, v < 256 ∧ feS _ _ _ _ _ _ _ k = _
  unfold feS
  split
  · exact h.2.2.2.2.2.2.2.2 k ‹_›
  · split
    · exact b_lt _
    · split
      · exact b_lt _
      · split
        · exact b_lt _
        · split
          · exact b_lt _
          · exact b_lt _
theorem feL {n : Nat} (hn : n ≤ 600) : ((Int32.ofNat n + 20) ≤ 600) = (n + 20 ≤ 600) := by
  rw [show (20 : Int32) = Int32.ofNat 20 from rfl, i_add, show (600 : Int32) = Int32.ofNat 600 from rfl, i_le (by omega) (by omega)]
theorem C_feed {x0 x1 x2 x3 x4 : Int32} (hC : CInv b w M A) (hn : (aTx A).1 + 20 ≤ 600) : ∃ M1, m_X1_feed M b x0 x1 x2 x3 x4 = some (Int32.ofNat ((aTx A).1 + 20), M1) ∧ CInv b w M1 (wTx A (feX A x0 x1 x2 x3 x4)) ∧ fr (sFd b) nz 0 0 M M1 := by
  have hs := hC.1.sh
  obtain ⟨f0, f1, f2, f3, f4, f5⟩ := feS_e (n := (aTx A).1) (X := (aTx A).2) (x0 := x0) (x1 := x1) (x2 := x2) (x3 := x3) (x4 := x4)
  have h0 : cFd b M (feS (aTx A).1 (aTx A).2 x0 x1 x2 x3 x4) (aTx A).1 M := ⟨fr.refl M, hC.1.tx.1, fun k hk => by rw [hC.1.tx.2 k hk, ← f0 k hk]⟩
  obtain ⟨M1, e1, h1⟩ := c_put (x := x0) hs h0 f1 (by omega)
  obtain ⟨M2, e2, h2⟩ := c_put (x := x1) hs h1 f2 (by omega)
  obtain ⟨M3, e3, h3⟩ := c_put (x := x2) hs h2 f3 (by omega)
  obtain ⟨M4, e4, h4⟩ := c_put (x := x3) hs h3 f4 (by omega)
  obtain ⟨M5, e5, h5⟩ := c_put (x := x4) hs h4 f5 (by omega)
  refine ⟨M5, ?_, cinv_tx hC h5.1 h5.2 (feX_ok hC.1.ok hn), h5.1⟩
  have k1 := kd0 (hs.fr h1.1 nz_p)
  have k2 := kd0 (hs.fr h2.1 nz_p)
  have k3 := kd0 (hs.fr h3.1 nz_p)
  have k4 := kd0 (hs.fr h4.1 nz_p)
  have k5 := kd0 (hs.fr h5.1 nz_p)
  have z := h5.2.1
  have k6 := hs.fr h5.1 nz_p
  simp -implicitDefEqProofs only [m_X1_feed, ↓gp0_2, ↓gp0_3, ↓gp0_4, ↓gp0_5, ↓gp0_6, ↓gp0_7, ↓gp0_8, ↓gp0_9, ↓gp0_10, ↓gp0_18, ↓gp0_19, ↓gp0_20, ↓gp0_22, ↓gp23_43, ↓gp23_32, ↓gp23_33, ↓gp23_34, ↓gp23_35, ↓gp23_36, ↓gp29_43, ↓gp29_32, ↓gp29_33, ↓gp29_34, ↓gp29_35, ↓gp29_36, ↓gp54_53, ↓gp54_54, ↓gp54_55, ↓gp54_56, ↓gp54_57, ↓gp54_58, ↓gp54_59, ↓gp54_60, ↓gp54_61, ↓gp54_62, ↓gp54_65, ↓gp54_66, ↓gp54_67, ↓gp54_68, ↓gp54_69, ↓gp54_70, ↓gp54_71, ↓gp54_73, ↓gp54_74, ↓gp54_75, ↓gp54_76, ↓gp54_84, ↓gp54_85, ↓gp54_87, ↓gp54_88, ↓xr59, kr59, ↓xr67, kr67, ↓xr75, kr75, ↓xr82, kr82, ↓xr89, kr89, ↓xr102, kr102, ↓xr115, kr115, ↓xr276, kr276, ↓xr437, kr437, ↓xr444, kr444, ↓xr453, kr453, ↓xr536, kr536, ↓xr553, kr553, hs0, hw0, hs1, hw1, hs2, hw2, hs3, hw3, hs4, hw4, hs5, hw5, hs6, hw6, hs7, hw7, hs8, hw8, hs9, hw9, hs10, hw10, hs11, hw11, hs12, hw12, hs13, hw13, hs14, hw14, hs15, hw15, hs16, hw16, hs17, hw17, hs18, hw18, hs19, hw19, hs20, hw20, hs21, hw21, hs22, hw22, hs23, hw23, hs25, hw25, hs26, hw26, hs27, hw27, hs28, hw28, hs9b, hw9b, hs10b, hw10b, kd0, kd20, kd21, kd22, kd23, kd24, kd25, kd26, kd27, kd28, kd29, kd30, kd31, kd32, kd33, kd34, kd35, kd36, kd37, kd38, kd39, kd40, kd41, kd42, kd54, kd55, kd56, kd57, kd58, kd59, kd67, kd75, kd82, kd89, kd102, kd115, kd276, kd437, kd444, kd451, kd452, kd453, kd534, kd535, kd536, kd553, kd557, kd558, kd559, kd560, kd561, ↓xgI_u, ↓xpI_u, ↓xaI_u, ↓xsI_u, ↓xrk_u, ↓xrk0_u, ↓xob_v, ↓xmb_v, ↓xth_v, ↓xth_x, ↓jn_u, ↓xlen_u, ↓xaL_u, ↓xsL_u, ↓xbl_0, ↓xbl_1, eq_self, inb_n, inb_d, Sh_PI, Sh_PL, dk_PI, dk_PL, dr_PI, dr_PL, ↓reduceIte, Int32.reduceLE, Int32.reduceLT, Int32.reduceToNatClampNeg, Nat.reduceLT, Nat.reduceLeDiff, Nat.reduceEqDiff, Nat.reduceAdd, Nat.reduceMul, hs, k6, kd0 hs, k1, k2, k3, k4, k5, e1, e2, e3, e4, e5, hC.1.tx.1, feL (show (aTx A).1 ≤ 600 by omega), hn, if_true, z]
def tFd (b : Nat) (M : dwSt) (X : Nat → Int32) (n : Nat) (M1 : dwSt) : Prop := fr (sFt b) nz 0 0 M M1 ∧ tTxP b M1 (n, X)
theorem selF : ∀ i, i < 20 → ((4 : Int32) ≤ Int32.ofNat i) = (4 ≤ i) ∧ ((8 : Int32) ≤ Int32.ofNat i) = (8 ≤ i) ∧ ((12 : Int32) ≤ Int32.ofNat i) = (12 ≤ i) ∧ ((16 : Int32) ≤ Int32.ofNat i) = (16 ≤ i) := by
  intro i hi
  refine ⟨?_, ?_, ?_, ?_⟩
  · rw [show (4 : Int32) = Int32.ofNat 4 from rfl, i_le (by omega) (by omega)]
  · rw [show (8 : Int32) = Int32.ofNat 8 from rfl, i_le (by omega) (by omega)]
  · rw [show (12 : Int32) = Int32.ofNat 12 from rfl, i_le (by omega) (by omega)]
  · rw [show (16 : Int32) = Int32.ofNat 16 from rfl, i_le (by omega) (by omega)]
theorem T_feed {x0 x1 x2 x3 x4 : Int32} (hT : TInv b M A) (hn : (aTx A).1 + 20 ≤ 600) : ∃ M1, m_X10_feed M (b + 54) x0 x1 x2 x3 x4 = some (Int32.ofNat ((aTx A).1 + 20), M1) ∧ TInv b M1 (wTx A (feX A x0 x1 x2 x3 x4)) ∧ fr (tW b) nz 0 0 M M1 := by
  obtain ⟨hT0, fz, z0⟩ := tinv_z hT
  have hs0 := hT0.1.sh
  have tx0 := hT0.1.tx
  obtain ⟨f0, f1, f2, f3, f4, f5⟩ := feS_e (n := (aTx A).1) (X := (aTx A).2) (x0 := x0) (x1 := x1) (x2 := x2) (x3 := x3) (x4 := x4)
  simp -implicitDefEqProofs only [m_X10_feed, ↓gp0_2, ↓gp0_3, ↓gp0_4, ↓gp0_5, ↓gp0_6, ↓gp0_7, ↓gp0_8, ↓gp0_9, ↓gp0_10, ↓gp0_18, ↓gp0_19, ↓gp0_20, ↓gp0_22, ↓gp23_43, ↓gp23_32, ↓gp23_33, ↓gp23_34, ↓gp23_35, ↓gp23_36, ↓gp29_43, ↓gp29_32, ↓gp29_33, ↓gp29_34, ↓gp29_35, ↓gp29_36, ↓gp54_53, ↓gp54_54, ↓gp54_55, ↓gp54_56, ↓gp54_57, ↓gp54_58, ↓gp54_59, ↓gp54_60, ↓gp54_61, ↓gp54_62, ↓gp54_65, ↓gp54_66, ↓gp54_67, ↓gp54_68, ↓gp54_69, ↓gp54_70, ↓gp54_71, ↓gp54_73, ↓gp54_74, ↓gp54_75, ↓gp54_76, ↓gp54_84, ↓gp54_85, ↓gp54_87, ↓gp54_88, ↓xr59, kr59, ↓xr67, kr67, ↓xr75, kr75, ↓xr82, kr82, ↓xr89, kr89, ↓xr102, kr102, ↓xr115, kr115, ↓xr276, kr276, ↓xr437, kr437, ↓xr444, kr444, ↓xr453, kr453, ↓xr536, kr536, ↓xr553, kr553, hs0, hw0, hs1, hw1, hs2, hw2, hs3, hw3, hs4, hw4, hs5, hw5, hs6, hw6, hs7, hw7, hs8, hw8, hs9, hw9, hs10, hw10, hs11, hw11, hs12, hw12, hs13, hw13, hs14, hw14, hs15, hw15, hs16, hw16, hs17, hw17, hs18, hw18, hs19, hw19, hs20, hw20, hs21, hw21, hs22, hw22, hs23, hw23, hs25, hw25, hs26, hw26, hs27, hw27, hs28, hw28, hs9b, hw9b, hs10b, hw10b, kd0, kd20, kd21, kd22, kd23, kd24, kd25, kd26, kd27, kd28, kd29, kd30, kd31, kd32, kd33, kd34, kd35, kd36, kd37, kd38, kd39, kd40, kd41, kd42, kd54, kd55, kd56, kd57, kd58, kd59, kd67, kd75, kd82, kd89, kd102, kd115, kd276, kd437, kd444, kd451, kd452, kd453, kd534, kd535, kd536, kd553, kd557, kd558, kd559, kd560, kd561, ↓xgI_u, ↓xpI_u, ↓xaI_u, ↓xsI_u, ↓xrk_u, ↓xrk0_u, ↓xob_v, ↓xmb_v, ↓xth_v, ↓xth_x, ↓jn_u, ↓xlen_u, ↓xaL_u, ↓xsL_u, ↓xbl_0, ↓xbl_1, eq_self, inb_n, inb_d, Sh_PI, Sh_PL, dk_PI, dk_PL, dr_PI, dr_PL, ↓reduceIte, Int32.reduceLE, Int32.reduceLT, Int32.reduceToNatClampNeg, Nat.reduceLT, Nat.reduceLeDiff, Nat.reduceEqDiff, Nat.reduceAdd, Nat.reduceMul, hT.1.sh, hs0, tx0.1, feL (show (aTx A).1 ≤ 600 by omega), hn, if_true]
  generalize dwPI M (b + 54) 44 0 = M0 at *
  refine lpx (E := fun z => ∃ M1, z = some (Int32.ofNat ((aTx A).1 + 20), M1) ∧ TInv b M1 (wTx A (feX A x0 x1 x2 x3 x4)) ∧ fr (tW b) nz 0 0 M M1) (fun f i (M1 : dwSt) => L_X10_feed_23 (b + 54) x0 x1 x2 x3 x4 (fun (M3 : dwSt) => xgI M3 45 (b + 54) (fun v4 => some (v4, M3))) f (Int32.ofNat i) M1) 20 (fun i M1 => tFd b M0 (feS (aTx A).1 (aTx A).2 x0 x1 x2 x3 x4) ((aTx A).1 + i) M1) ?_ ?_ 1000000 0 M0 (by omega) (by omega) ⟨fr.refl M0, tx0.1, fun k hk => by rw [tx0.2 k hk, ← f0 k hk]⟩
  · intro f M1 ⟨h1, h2⟩
    have hs1 := hs0.fr h1 nz_p
    have e20 : ((20 : Int32) ≤ Int32.ofNat 20) = True := i_geT 20
    have h3 := h2.1
    refine ⟨M1, ?_, tinv_tx hT0 h1 h2 (feX_ok hT.1.ok hn), fz.t0 (h1.mono (fun a k q => by unfold sFt at q; unfold tW; omega) (fun _ _ q => q) (Nat.le_refl _) (Nat.le_refl _))⟩
    simp -implicitDefEqProofs only [L_X10_feed_23, ↓gp0_2, ↓gp0_3, ↓gp0_4, ↓gp0_5, ↓gp0_6, ↓gp0_7, ↓gp0_8, ↓gp0_9, ↓gp0_10, ↓gp0_18, ↓gp0_19, ↓gp0_20, ↓gp0_22, ↓gp23_43, ↓gp23_32, ↓gp23_33, ↓gp23_34, ↓gp23_35, ↓gp23_36, ↓gp29_43, ↓gp29_32, ↓gp29_33, ↓gp29_34, ↓gp29_35, ↓gp29_36, ↓gp54_53, ↓gp54_54, ↓gp54_55, ↓gp54_56, ↓gp54_57, ↓gp54_58, ↓gp54_59, ↓gp54_60, ↓gp54_61, ↓gp54_62, ↓gp54_65, ↓gp54_66, ↓gp54_67, ↓gp54_68, ↓gp54_69, ↓gp54_70, ↓gp54_71, ↓gp54_73, ↓gp54_74, ↓gp54_75, ↓gp54_76, ↓gp54_84, ↓gp54_85, ↓gp54_87, ↓gp54_88, ↓xr59, kr59, ↓xr67, kr67, ↓xr75, kr75, ↓xr82, kr82, ↓xr89, kr89, ↓xr102, kr102, ↓xr115, kr115, ↓xr276, kr276, ↓xr437, kr437, ↓xr444, kr444, ↓xr453, kr453, ↓xr536, kr536, ↓xr553, kr553, hs0, hw0, hs1, hw1, hs2, hw2, hs3, hw3, hs4, hw4, hs5, hw5, hs6, hw6, hs7, hw7, hs8, hw8, hs9, hw9, hs10, hw10, hs11, hw11, hs12, hw12, hs13, hw13, hs14, hw14, hs15, hw15, hs16, hw16, hs17, hw17, hs18, hw18, hs19, hw19, hs20, hw20, hs21, hw21, hs22, hw22, hs23, hw23, hs25, hw25, hs26, hw26, hs27, hw27, hs28, hw28, hs9b, hw9b, hs10b, hw10b, kd0, kd20, kd21, kd22, kd23, kd24, kd25, kd26, kd27, kd28, kd29, kd30, kd31, kd32, kd33, kd34, kd35, kd36, kd37, kd38, kd39, kd40, kd41, kd42, kd54, kd55, kd56, kd57, kd58, kd59, kd67, kd75, kd82, kd89, kd102, kd115, kd276, kd437, kd444, kd451, kd452, kd453, kd534, kd535, kd536, kd553, kd557, kd558, kd559, kd560, kd561, ↓xgI_u, ↓xpI_u, ↓xaI_u, ↓xsI_u, ↓xrk_u, ↓xrk0_u, ↓xob_v, ↓xmb_v, ↓xth_v, ↓xth_x, ↓jn_u, ↓xlen_u, ↓xaL_u, ↓xsL_u, ↓xbl_0, ↓xbl_1, eq_self, inb_n, inb_d, Sh_PI, Sh_PL, dk_PI, dk_PL, dr_PI, dr_PL, ↓reduceIte, Int32.reduceLE, Int32.reduceLT, Int32.reduceToNatClampNeg, Nat.reduceLT, Nat.reduceLeDiff, Nat.reduceEqDiff, Nat.reduceAdd, Nat.reduceMul, hs1, e20, if_true, h3]
  · intro f i M1 hi ⟨h1, h2, h4⟩ hnx
    have hs1 := hs0.fr h1 nz_p
    have hN := shN hs1
    have e20 : ((20 : Int32) ≤ Int32.ofNat i) = False := i_geF (n := 20) hi (by omega)
    have h3 : dwI M1 (b + 54) 45 = Int32.ofNat ((aTx A).1 + i) := h2
    obtain ⟨s1, s2, s3, s4⟩ := selF i hi
    have wr : ∀ v : Int32, v = feS (aTx A).1 (aTx A).2 x0 x1 x2 x3 x4 ((aTx A).1 + i) → ∃ M2, L_X10_feed_23 (b + 54) x0 x1 x2 x3 x4 (fun (M3 : dwSt) => xgI M3 45 (b + 54) (fun v4 => some (v4, M3))) f (Int32.ofNat (i + 1)) (dwPI (dwPI M1 (b + 55) ((aTx A).1 + i) v) (b + 54) 45 (Int32.ofNat ((aTx A).1 + i + 1))) = some (Int32.ofNat ((aTx A).1 + 20), M2) ∧ TInv b M2 (wTx A (feX A x0 x1 x2 x3 x4)) ∧ fr (tW b) nz 0 0 M M2 := by
      intro v hv
      refine hnx _ ⟨(h1.pI _ (Or.inl (Or.inr rfl))).pI _ (Or.inl (Or.inl ⟨rfl, rfl⟩)), ?_, ?_⟩
      · rw [di_PI, if_pos ⟨rfl, rfl⟩]; rfl
      · intro k hk
        rw [di_PI, if_neg (by omega), di_PI]
        by_cases hkt : k = (aTx A).1 + i
        · rw [if_pos ⟨rfl, hkt⟩, hv, hkt]
        · rw [if_neg (fun q => hkt q.2)]
          exact h4 k (by show k < (aTx A).1 + i; have : k < (aTx A).1 + (i + 1) := hk; omega)
    simp -implicitDefEqProofs only [L_X10_feed_23, ↓gp0_2, ↓gp0_3, ↓gp0_4, ↓gp0_5, ↓gp0_6, ↓gp0_7, ↓gp0_8, ↓gp0_9, ↓gp0_10, ↓gp0_18, ↓gp0_19, ↓gp0_20, ↓gp0_22, ↓gp23_43, ↓gp23_32, ↓gp23_33, ↓gp23_34, ↓gp23_35, ↓gp23_36, ↓gp29_43, ↓gp29_32, ↓gp29_33, ↓gp29_34, ↓gp29_35, ↓gp29_36, ↓gp54_53, ↓gp54_54, ↓gp54_55, ↓gp54_56, ↓gp54_57, ↓gp54_58, ↓gp54_59, ↓gp54_60, ↓gp54_61, ↓gp54_62, ↓gp54_65, ↓gp54_66, ↓gp54_67, ↓gp54_68, ↓gp54_69, ↓gp54_70, ↓gp54_71, ↓gp54_73, ↓gp54_74, ↓gp54_75, ↓gp54_76, ↓gp54_84, ↓gp54_85, ↓gp54_87, ↓gp54_88, ↓xr59, kr59, ↓xr67, kr67, ↓xr75, kr75, ↓xr82, kr82, ↓xr89, kr89, ↓xr102, kr102, ↓xr115, kr115, ↓xr276, kr276, ↓xr437, kr437, ↓xr444, kr444, ↓xr453, kr453, ↓xr536, kr536, ↓xr553, kr553, hs0, hw0, hs1, hw1, hs2, hw2, hs3, hw3, hs4, hw4, hs5, hw5, hs6, hw6, hs7, hw7, hs8, hw8, hs9, hw9, hs10, hw10, hs11, hw11, hs12, hw12, hs13, hw13, hs14, hw14, hs15, hw15, hs16, hw16, hs17, hw17, hs18, hw18, hs19, hw19, hs20, hw20, hs21, hw21, hs22, hw22, hs23, hw23, hs25, hw25, hs26, hw26, hs27, hw27, hs28, hw28, hs9b, hw9b, hs10b, hw10b, kd0, kd20, kd21, kd22, kd23, kd24, kd25, kd26, kd27, kd28, kd29, kd30, kd31, kd32, kd33, kd34, kd35, kd36, kd37, kd38, kd39, kd40, kd41, kd42, kd54, kd55, kd56, kd57, kd58, kd59, kd67, kd75, kd82, kd89, kd102, kd115, kd276, kd437, kd444, kd451, kd452, kd453, kd534, kd535, kd536, kd553, kd557, kd558, kd559, kd560, kd561, ↓xgI_u, ↓xpI_u, ↓xaI_u, ↓xsI_u, ↓xrk_u, ↓xrk0_u, ↓xob_v, ↓xmb_v, ↓xth_v, ↓xth_x, ↓jn_u, ↓xlen_u, ↓xaL_u, ↓xsL_u, ↓xbl_0, ↓xbl_1, eq_self, inb_n, inb_d, Sh_PI, Sh_PL, dk_PI, dk_PL, dr_PI, dr_PL, ↓reduceIte, Int32.reduceLE, Int32.reduceLT, Int32.reduceToNatClampNeg, Nat.reduceLT, Nat.reduceLeDiff, Nat.reduceEqDiff, Nat.reduceAdd, Nat.reduceMul, hs1, e20, if_false, s1, s2, s3, s4, h3, kd55 hs1, xrem_u e40, p_r4 i hi, show (aTx A).1 + i < 600 by omega, i_nat (show (aTx A).1 + i < 2147483648 by omega), di_PI, show ¬ (b + 54 = b + 55) by omega, false_and, i_succ]
    have hm := Nat.mod_lt i (show 0 < 4 by omega)
    by_cases c1 : 4 ≤ i
    · by_cases c2 : 8 ≤ i
      · by_cases c3 : 12 ≤ i
        · by_cases c4 : 16 ≤ i
          · simp only [c1, c2, c3, c4, if_true]
            exact wr _ (by have := f5 (i % 4) hm; rw [show (aTx A).1 + 16 + i % 4 = (aTx A).1 + i by omega] at this; exact this.symm)
          · simp only [c1, c2, c3, c4, if_true, if_false]
            exact wr _ (by have := f4 (i % 4) hm; rw [show (aTx A).1 + 12 + i % 4 = (aTx A).1 + i by omega] at this; exact this.symm)
        · simp only [c1, c2, c3, if_true, if_false]
          exact wr _ (by have := f3 (i % 4) hm; rw [show (aTx A).1 + 8 + i % 4 = (aTx A).1 + i by omega] at this; exact this.symm)
      · simp only [c1, c2, if_true, if_false]
        exact wr _ (by have := f2 (i % 4) hm; rw [show (aTx A).1 + 4 + i % 4 = (aTx A).1 + i by omega] at this; exact this.symm)
    · simp only [c1, if_false]
      exact wr _ (by have := f1 (i % 4) hm; rw [show (aTx A).1 + i % 4 = (aTx A).1 + i by omega] at this; exact this.symm)
theorem call_feed (hC : CInv b w M A) (hT : TInv b M A) (x0 x1 x2 x3 x4 : Int32) : agree2 b M (fun M => m_X1_feed M b x0 x1 x2 x3 x4) (fun M => m_X10_feed M (b + 54) x0 x1 x2 x3 x4) := by
  have ho := hC.1.ok.2.2.2.2.2.2.2.1
  by_cases hn : (aTx A).1 + 20 ≤ 600
  · refine agree2_mk (A' := wTx A (feX A x0 x1 x2 x3 x4)) (v := Int32.ofNat ((aTx A).1 + 20)) hT ?_ fun M1 h1 => ?_
    · obtain ⟨M1, e, c, f⟩ := C_feed (x0 := x0) (x1 := x1) (x2 := x2) (x3 := x3) (x4 := x4) hC hn
      exact ⟨M1, w, e, c, f.mono (fun a k q => by unfold sFd at q; unfold cWo; omega) (fun _ _ q => False.elim q) (by omega) (by omega)⟩
    · exact T_feed h1 hn
  · refine agree2_mk (A' := A) (v := -1) hT ⟨M, w, ?_, hC, (fr.refl M).mono (fun _ _ q => False.elim q) (fun _ _ q => False.elim q) (by omega) (by omega)⟩ fun M1 h1 => ?_
    · simp -implicitDefEqProofs only [m_X1_feed, ↓gp0_2, ↓gp0_3, ↓gp0_4, ↓gp0_5, ↓gp0_6, ↓gp0_7, ↓gp0_8, ↓gp0_9, ↓gp0_10, ↓gp0_18, ↓gp0_19, ↓gp0_20, ↓gp0_22, ↓gp23_43, ↓gp23_32, ↓gp23_33, ↓gp23_34, ↓gp23_35, ↓gp23_36, ↓gp29_43, ↓gp29_32, ↓gp29_33, ↓gp29_34, ↓gp29_35, ↓gp29_36, ↓gp54_53, ↓gp54_54, ↓gp54_55, ↓gp54_56, ↓gp54_57, ↓gp54_58, ↓gp54_59, ↓gp54_60, ↓gp54_61, ↓gp54_62, ↓gp54_65, ↓gp54_66, ↓gp54_67, ↓gp54_68, ↓gp54_69, ↓gp54_70, ↓gp54_71, ↓gp54_73, ↓gp54_74, ↓gp54_75, ↓gp54_76, ↓gp54_84, ↓gp54_85, ↓gp54_87, ↓gp54_88, ↓xr59, kr59, ↓xr67, kr67, ↓xr75, kr75, ↓xr82, kr82, ↓xr89, kr89, ↓xr102, kr102, ↓xr115, kr115, ↓xr276, kr276, ↓xr437, kr437, ↓xr444, kr444, ↓xr453, kr453, ↓xr536, kr536, ↓xr553, kr553, hs0, hw0, hs1, hw1, hs2, hw2, hs3, hw3, hs4, hw4, hs5, hw5, hs6, hw6, hs7, hw7, hs8, hw8, hs9, hw9, hs10, hw10, hs11, hw11, hs12, hw12, hs13, hw13, hs14, hw14, hs15, hw15, hs16, hw16, hs17, hw17, hs18, hw18, hs19, hw19, hs20, hw20, hs21, hw21, hs22, hw22, hs23, hw23, hs25, hw25, hs26, hw26, hs27, hw27, hs28, hw28, hs9b, hw9b, hs10b, hw10b, kd0, kd20, kd21, kd22, kd23, kd24, kd25, kd26, kd27, kd28, kd29, kd30, kd31, kd32, kd33, kd34, kd35, kd36, kd37, kd38, kd39, kd40, kd41, kd42, kd54, kd55, kd56, kd57, kd58, kd59, kd67, kd75, kd82, kd89, kd102, kd115, kd276, kd437, kd444, kd451, kd452, kd453, kd534, kd535, kd536, kd553, kd557, kd558, kd559, kd560, kd561, ↓xgI_u, ↓xpI_u, ↓xaI_u, ↓xsI_u, ↓xrk_u, ↓xrk0_u, ↓xob_v, ↓xmb_v, ↓xth_v, ↓xth_x, ↓jn_u, ↓xlen_u, ↓xaL_u, ↓xsL_u, ↓xbl_0, ↓xbl_1, eq_self, inb_n, inb_d, Sh_PI, Sh_PL, dk_PI, dk_PL, dr_PI, dr_PL, ↓reduceIte, Int32.reduceLE, Int32.reduceLT, Int32.reduceToNatClampNeg, Nat.reduceLT, Nat.reduceLeDiff, Nat.reduceEqDiff, Nat.reduceAdd, Nat.reduceMul, hC.1.sh, kd0 hC.1.sh, hC.1.tx.1, feL ho, hn, if_false]
    · obtain ⟨hT0, fz, z0⟩ := tinv_z h1
      refine ⟨_, ?_, hT0, fz⟩
      have tx0 := hT0.1.tx
      simp -implicitDefEqProofs only [m_X10_feed, ↓gp0_2, ↓gp0_3, ↓gp0_4, ↓gp0_5, ↓gp0_6, ↓gp0_7, ↓gp0_8, ↓gp0_9, ↓gp0_10, ↓gp0_18, ↓gp0_19, ↓gp0_20, ↓gp0_22, ↓gp23_43, ↓gp23_32, ↓gp23_33, ↓gp23_34, ↓gp23_35, ↓gp23_36, ↓gp29_43, ↓gp29_32, ↓gp29_33, ↓gp29_34, ↓gp29_35, ↓gp29_36, ↓gp54_53, ↓gp54_54, ↓gp54_55, ↓gp54_56, ↓gp54_57, ↓gp54_58, ↓gp54_59, ↓gp54_60, ↓gp54_61, ↓gp54_62, ↓gp54_65, ↓gp54_66, ↓gp54_67, ↓gp54_68, ↓gp54_69, ↓gp54_70, ↓gp54_71, ↓gp54_73, ↓gp54_74, ↓gp54_75, ↓gp54_76, ↓gp54_84, ↓gp54_85, ↓gp54_87, ↓gp54_88, ↓xr59, kr59, ↓xr67, kr67, ↓xr75, kr75, ↓xr82, kr82, ↓xr89, kr89, ↓xr102, kr102, ↓xr115, kr115, ↓xr276, kr276, ↓xr437, kr437, ↓xr444, kr444, ↓xr453, kr453, ↓xr536, kr536, ↓xr553, kr553, hs0, hw0, hs1, hw1, hs2, hw2, hs3, hw3, hs4, hw4, hs5, hw5, hs6, hw6, hs7, hw7, hs8, hw8, hs9, hw9, hs10, hw10, hs11, hw11, hs12, hw12, hs13, hw13, hs14, hw14, hs15, hw15, hs16, hw16, hs17, hw17, hs18, hw18, hs19, hw19, hs20, hw20, hs21, hw21, hs22, hw22, hs23, hw23, hs25, hw25, hs26, hw26, hs27, hw27, hs28, hw28, hs9b, hw9b, hs10b, hw10b, kd0, kd20, kd21, kd22, kd23, kd24, kd25, kd26, kd27, kd28, kd29, kd30, kd31, kd32, kd33, kd34, kd35, kd36, kd37, kd38, kd39, kd40, kd41, kd42, kd54, kd55, kd56, kd57, kd58, kd59, kd67, kd75, kd82, kd89, kd102, kd115, kd276, kd437, kd444, kd451, kd452, kd453, kd534, kd535, kd536, kd553, kd557, kd558, kd559, kd560, kd561, ↓xgI_u, ↓xpI_u, ↓xaI_u, ↓xsI_u, ↓xrk_u, ↓xrk0_u, ↓xob_v, ↓xmb_v, ↓xth_v, ↓xth_x, ↓jn_u, ↓xlen_u, ↓xaL_u, ↓xsL_u, ↓xbl_0, ↓xbl_1, eq_self, inb_n, inb_d, Sh_PI, Sh_PL, dk_PI, dk_PL, dr_PI, dr_PL, ↓reduceIte, Int32.reduceLE, Int32.reduceLT, Int32.reduceToNatClampNeg, Nat.reduceLT, Nat.reduceLeDiff, Nat.reduceEqDiff, Nat.reduceAdd, Nat.reduceMul, h1.1.sh, hT0.1.sh, tx0.1, feL ho, hn, if_false]
end CALL
