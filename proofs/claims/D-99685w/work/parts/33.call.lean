/-! CALLS: what each side owes -/
def cSc (b : Nat) : Nat → Nat → Prop := fun a k => (a = b ∧ (k = 14 ∨ k = 21)) ∨ a = b + 20 ∨ (b + 29 ≤ a ∧ a ≤ b + 34) ∨ (b + 40 ≤ a ∧ a ≤ b + 42)
def tSc (b : Nat) : Nat → Nat → Prop := fun a k => (a = b + 54 ∧ (k = 86 ∨ k = 89)) ∨ a = b + 451 ∨ a = b + 452 ∨ a = b + 535 ∨ (b + 557 ≤ a ∧ a ≤ b + 560)
theorem e10 : ((1 : Int32) = 0) = False := eq_false (by decide)
theorem e01 : ((0 : Int32) = 1) = False := eq_false (by decide)
theorem e20 : ((2 : Int32) = 0) = False := eq_false (by decide)
theorem e21 : ((2 : Int32) = 1) = False := eq_false (by decide)
theorem n12 : ((1 : Nat) = 2) = False := eq_false (by decide)
theorem n21 : ((2 : Nat) = 1) = False := eq_false (by decide)
theorem on0 : (Int32.ofNat 0).toNatClampNeg = 0 := rfl
theorem on1 : (Int32.ofNat 1).toNatClampNeg = 1 := rfl
theorem on2 : (Int32.ofNat 2).toNatClampNeg = 2 := rfl
section CALL
variable {b : Nat} {w : Nat → Nat} {M : dwSt} {A : dvA}
theorem cinv_s {M1 : dwSt} (h : CInv b w M A) (f : fr (cSc b) nz 0 0 M M1) : CInv b w M1 A := CInv.fr h f (fun a k q hk => by unfold cSc at q; unfold cKeep imf at hk; omega) (fun k q => by unfold cSc at q; omega)
theorem tinv_s {M1 : dwSt} (h : TInv b M A) (f : fr (tSc b) nz 0 0 M M1) : TInv b M1 A := TInv.fr h f (fun a k q hk => by unfold tSc at q; unfold tKeep at hk; omega) (fun k q => by unfold tSc at q; omega) nz_p
theorem c_okk {f : dwSt → dwR9 Int32} {x : dwR9 Int32} {v : Int32} (hC : CInv b w M A) (h : ∃ M1, x = some (.inl v, M1) ∧ fr (cSc b) nz 0 0 M M1) (hX : ∀ M1, x = some (.inl v, M1) → dwK M1 (b + 561) = (3, 1) → f M = some (.inl 0, dwPL M1 (b + 561) 0 v.toInt64)) : ∃ M1 w', f M = some (.inl (0 : Int32), M1) ∧ CInv b w' M1 A ∧ fr (cWo b) (zWo b) 9000 113000 M M1 ∧ ((0 : Int32) = 0 → dwL M1 (b + 561) 0 = v.toInt64) := by
  obtain ⟨M1, e, f1⟩ := h
  have c1 := cinv_s hC f1
  have f2 : fr (cWo b) nz 0 0 M (dwPL M1 (b + 561) 0 v.toInt64) := (f1.mono (fun a k q => by unfold cSc at q; unfold cWo; omega) (fun _ _ q => q) (Nat.le_refl _) (Nat.le_refl _)).pL _ (Or.inl (by unfold cWo; omega))
  refine ⟨_, w, hX M1 e (kd561 c1.1.1), ?_, f2.mono (fun _ _ q => q) (fun _ _ q => False.elim q) (by omega) (by omega), fun _ => by rw [dl_PL, if_pos ⟨rfl, rfl⟩]⟩
  have f3 : fr (fun a _ => a = b + 561) nz 0 0 M1 (dwPL M1 (b + 561) 0 v.toInt64) := (fr.refl M1).pL _ (Or.inl rfl)
  exact CInv.fr c1 f3 (fun a k q hk => by subst q; unfold cKeep imf at hk; omega) (fun k q => by omega)
theorem c_okL {f : dwSt → dwR9 Int32} {x : dwR9 Int64} {v : Int64} (hC : CInv b w M A) (h : ∃ M1, x = some (.inl v, M1) ∧ fr (cSc b) nz 0 0 M M1) (hX : ∀ M1, x = some (.inl v, M1) → dwK M1 (b + 561) = (3, 1) → f M = some (.inl 0, dwPL M1 (b + 561) 0 v)) : ∃ M1 w', f M = some (.inl (0 : Int32), M1) ∧ CInv b w' M1 A ∧ fr (cWo b) (zWo b) 9000 113000 M M1 ∧ ((0 : Int32) = 0 → dwL M1 (b + 561) 0 = v) := by
  obtain ⟨M1, e, f1⟩ := h
  have c1 := cinv_s hC f1
  have f2 : fr (cWo b) nz 0 0 M (dwPL M1 (b + 561) 0 v) := (f1.mono (fun a k q => by unfold cSc at q; unfold cWo; omega) (fun _ _ q => q) (Nat.le_refl _) (Nat.le_refl _)).pL _ (Or.inl (by unfold cWo; omega))
  refine ⟨_, w, hX M1 e (kd561 c1.1.1), ?_, f2.mono (fun _ _ q => q) (fun _ _ q => False.elim q) (by omega) (by omega), fun _ => by rw [dl_PL, if_pos ⟨rfl, rfl⟩]⟩
  have f3 : fr (fun a _ => a = b + 561) nz 0 0 M1 (dwPL M1 (b + 561) 0 v) := (fr.refl M1).pL _ (Or.inl rfl)
  exact CInv.fr c1 f3 (fun a k q hk => by subst q; unfold cKeep imf at hk; omega) (fun k q => by omega)
theorem c_err {f : dwSt → dwR9 Int32} {x : dwR9 Int32} {cl i : Nat} {k v : Int32} (hk : k ≠ 0) (h : ∃ M1 q, x = some (.inr (cl, q), M1) ∧ CInv b w M1 (aBump A i) ∧ fr (cWo b) nz 1 6 M M1) (hX : ∀ M1 q, x = some (.inr (cl, q), M1) → f M = some (.inl k, M1)) : ∃ M1 w', f M = some (.inl k, M1) ∧ CInv b w' M1 (aBump A i) ∧ fr (cWo b) (zWo b) 9000 113000 M M1 ∧ (k = 0 → dwL M1 (b + 561) 0 = v.toInt64) := by
  obtain ⟨M1, q, e, c1, f1⟩ := h
  exact ⟨M1, w, hX M1 q e, c1, f1.mono (fun _ _ q => q) (fun _ _ q => False.elim q) (by omega) (by omega), fun q => absurd q hk⟩
theorem t_err {g : dwSt → Option (Int32 × dwSt)} {x v : Int32} {i : Nat} (hT : TInv b M A) (hx : x ≠ 0) (hi : i < 2) (hg : ∀ M2, m_X10_bad (dwPI M (b + 54) 44 0) (b + 54) 1 x (Int32.ofNat i) = some (1, M2) → g M = some (0, M2)) : ∃ M2 v2, g M = some (v2, M2) ∧ TInv b M2 (aBump A i) ∧ fr (tW b) nz 0 0 M M2 ∧ dwI M2 (b + 54) 44 = x ∧ (x = 0 → v2 = v) := by
  obtain ⟨hT0, f0, z0⟩ := tinv_z hT
  obtain ⟨M2, e, t2, k2, f2⟩ := t_bad1 hT0 z0 hx hi
  exact ⟨M2, 0, hg M2 e, t2, f0.t0 f2, k2, fun q => absurd q hx⟩
theorem t_okk {g : dwSt → Option (Int32 × dwSt)} {v : Int32} (hT : TInv b M A) (h : ∃ M2, g M = some (v, M2) ∧ fr (tSc b) nz 0 0 (dwPI M (b + 54) 44 0) M2) : ∃ M2 v2, g M = some (v2, M2) ∧ TInv b M2 A ∧ fr (tW b) nz 0 0 M M2 ∧ dwI M2 (b + 54) 44 = 0 ∧ ((0 : Int32) = 0 → v2 = v) := by
  obtain ⟨M2, e, f2⟩ := h
  obtain ⟨hT0, f0, z0⟩ := tinv_z hT
  have hn := shN hT0.1.1
  exact ⟨M2, v, e, tinv_s hT0 f2, f0.t0 (f2.mono (fun a k q => by unfold tSc at q; unfold tW; omega) (fun _ _ q => q) (Nat.le_refl _) (Nat.le_refl _)), (f2.i (by omega) (fun q => by unfold tSc at q; omega)).trans z0, fun _ => rfl⟩
theorem t_noneT {j p : Nat} (hs : Sh b M) (hT : tTold b M (aT A)) (hj : j < tJ (aT A)) (hp : p < tP (aT A)) : m_X10_isNone M (b + 54) (Int32.ofNat j) (Int32.ofNat p) = some 0 := by
  have o := hT.2.2.2.2.2.2.2.2
  have o1 := o.1
  have o2 := o.2.1
  simp -implicitDefEqProofs only [m_X10_isNone, ↓gp0_2, ↓gp0_3, ↓gp0_4, ↓gp0_5, ↓gp0_6, ↓gp0_7, ↓gp0_8, ↓gp0_9, ↓gp0_10, ↓gp0_18, ↓gp0_19, ↓gp0_20, ↓gp0_22, ↓gp23_43, ↓gp23_32, ↓gp23_33, ↓gp23_34, ↓gp23_35, ↓gp23_36, ↓gp29_43, ↓gp29_32, ↓gp29_33, ↓gp29_34, ↓gp29_35, ↓gp29_36, ↓gp54_53, ↓gp54_54, ↓gp54_55, ↓gp54_56, ↓gp54_57, ↓gp54_58, ↓gp54_59, ↓gp54_60, ↓gp54_61, ↓gp54_62, ↓gp54_65, ↓gp54_66, ↓gp54_67, ↓gp54_68, ↓gp54_69, ↓gp54_70, ↓gp54_71, ↓gp54_73, ↓gp54_74, ↓gp54_75, ↓gp54_76, ↓gp54_84, ↓gp54_85, ↓gp54_87, ↓gp54_88, ↓xr59, kr59, ↓xr67, kr67, ↓xr75, kr75, ↓xr82, kr82, ↓xr89, kr89, ↓xr102, kr102, ↓xr115, kr115, ↓xr276, kr276, ↓xr437, kr437, ↓xr444, kr444, ↓xr453, kr453, ↓xr536, kr536, ↓xr553, kr553, hs0, hw0, hs1, hw1, hs2, hw2, hs3, hw3, hs4, hw4, hs5, hw5, hs6, hw6, hs7, hw7, hs8, hw8, hs9, hw9, hs10, hw10, hs11, hw11, hs12, hw12, hs13, hw13, hs14, hw14, hs15, hw15, hs16, hw16, hs17, hw17, hs18, hw18, hs19, hw19, hs20, hw20, hs21, hw21, hs22, hw22, hs23, hw23, hs25, hw25, hs26, hw26, hs27, hw27, hs28, hw28, hs9b, hw9b, hs10b, hw10b, kd0, kd20, kd21, kd22, kd23, kd24, kd25, kd26, kd27, kd28, kd29, kd30, kd31, kd32, kd33, kd34, kd35, kd36, kd37, kd38, kd39, kd40, kd41, kd42, kd54, kd55, kd56, kd57, kd58, kd59, kd67, kd75, kd82, kd89, kd102, kd115, kd276, kd437, kd444, kd451, kd452, kd453, kd534, kd535, kd536, kd553, kd557, kd558, kd559, kd560, kd561, ↓xgI_u, ↓xpI_u, ↓xaI_u, ↓xsI_u, ↓xrk_u, ↓xrk0_u, ↓xob_v, ↓xmb_v, ↓xth_v, ↓xth_x, ↓jn_u, ↓xlen_u, ↓xaL_u, ↓xsL_u, ↓xbl_0, ↓xbl_1, eq_self, inb_n, inb_d, Sh_PI, Sh_PL, dk_PI, dk_PL, dr_PI, dr_PL, ↓reduceIte, Int32.reduceLE, Int32.reduceLT, Int32.reduceToNatClampNeg, Nat.reduceLT, Nat.reduceLeDiff, Nat.reduceEqDiff, Nat.reduceAdd, Nat.reduceMul, hs, t_isJ hs hT, t_isP hs hT, t_inT hj (by omega), t_inT hp (by omega), e10]
theorem t_noneF {x y : Int32} (hs : Sh b M) (hT : tTold b M (aT A)) (h : nin x (tJ (aT A)) ∨ nin y (tP (aT A))) : m_X10_isNone M (b + 54) x y = some 1 := by
  have o := hT.2.2.2.2.2.2.2.2
  have o1 := o.1
  have o2 := o.2.1
  rcases in_or x (tJ (aT A)) with ⟨j, hj, rfl⟩ | hx
  · rcases h with h | h
    · exfalso
      rcases h with hx | ⟨k, h1, h2, h3⟩
      · rw [i_neg (by omega)] at hx; exact hx
      · rw [i_inj (by omega) h2] at h3; omega
    · simp -implicitDefEqProofs only [m_X10_isNone, ↓gp0_2, ↓gp0_3, ↓gp0_4, ↓gp0_5, ↓gp0_6, ↓gp0_7, ↓gp0_8, ↓gp0_9, ↓gp0_10, ↓gp0_18, ↓gp0_19, ↓gp0_20, ↓gp0_22, ↓gp23_43, ↓gp23_32, ↓gp23_33, ↓gp23_34, ↓gp23_35, ↓gp23_36, ↓gp29_43, ↓gp29_32, ↓gp29_33, ↓gp29_34, ↓gp29_35, ↓gp29_36, ↓gp54_53, ↓gp54_54, ↓gp54_55, ↓gp54_56, ↓gp54_57, ↓gp54_58, ↓gp54_59, ↓gp54_60, ↓gp54_61, ↓gp54_62, ↓gp54_65, ↓gp54_66, ↓gp54_67, ↓gp54_68, ↓gp54_69, ↓gp54_70, ↓gp54_71, ↓gp54_73, ↓gp54_74, ↓gp54_75, ↓gp54_76, ↓gp54_84, ↓gp54_85, ↓gp54_87, ↓gp54_88, ↓xr59, kr59, ↓xr67, kr67, ↓xr75, kr75, ↓xr82, kr82, ↓xr89, kr89, ↓xr102, kr102, ↓xr115, kr115, ↓xr276, kr276, ↓xr437, kr437, ↓xr444, kr444, ↓xr453, kr453, ↓xr536, kr536, ↓xr553, kr553, hs0, hw0, hs1, hw1, hs2, hw2, hs3, hw3, hs4, hw4, hs5, hw5, hs6, hw6, hs7, hw7, hs8, hw8, hs9, hw9, hs10, hw10, hs11, hw11, hs12, hw12, hs13, hw13, hs14, hw14, hs15, hw15, hs16, hw16, hs17, hw17, hs18, hw18, hs19, hw19, hs20, hw20, hs21, hw21, hs22, hw22, hs23, hw23, hs25, hw25, hs26, hw26, hs27, hw27, hs28, hw28, hs9b, hw9b, hs10b, hw10b, kd0, kd20, kd21, kd22, kd23, kd24, kd25, kd26, kd27, kd28, kd29, kd30, kd31, kd32, kd33, kd34, kd35, kd36, kd37, kd38, kd39, kd40, kd41, kd42, kd54, kd55, kd56, kd57, kd58, kd59, kd67, kd75, kd82, kd89, kd102, kd115, kd276, kd437, kd444, kd451, kd452, kd453, kd534, kd535, kd536, kd553, kd557, kd558, kd559, kd560, kd561, ↓xgI_u, ↓xpI_u, ↓xaI_u, ↓xsI_u, ↓xrk_u, ↓xrk0_u, ↓xob_v, ↓xmb_v, ↓xth_v, ↓xth_x, ↓jn_u, ↓xlen_u, ↓xaL_u, ↓xsL_u, ↓xbl_0, ↓xbl_1, eq_self, inb_n, inb_d, Sh_PI, Sh_PL, dk_PI, dk_PL, dr_PI, dr_PL, ↓reduceIte, Int32.reduceLE, Int32.reduceLT, Int32.reduceToNatClampNeg, Nat.reduceLT, Nat.reduceLeDiff, Nat.reduceEqDiff, Nat.reduceAdd, Nat.reduceMul, hs, t_isJ hs hT, t_isP hs hT, t_inT hj (by omega), t_inF h (by omega), e10]
  · simp -implicitDefEqProofs only [m_X10_isNone, ↓gp0_2, ↓gp0_3, ↓gp0_4, ↓gp0_5, ↓gp0_6, ↓gp0_7, ↓gp0_8, ↓gp0_9, ↓gp0_10, ↓gp0_18, ↓gp0_19, ↓gp0_20, ↓gp0_22, ↓gp23_43, ↓gp23_32, ↓gp23_33, ↓gp23_34, ↓gp23_35, ↓gp23_36, ↓gp29_43, ↓gp29_32, ↓gp29_33, ↓gp29_34, ↓gp29_35, ↓gp29_36, ↓gp54_53, ↓gp54_54, ↓gp54_55, ↓gp54_56, ↓gp54_57, ↓gp54_58, ↓gp54_59, ↓gp54_60, ↓gp54_61, ↓gp54_62, ↓gp54_65, ↓gp54_66, ↓gp54_67, ↓gp54_68, ↓gp54_69, ↓gp54_70, ↓gp54_71, ↓gp54_73, ↓gp54_74, ↓gp54_75, ↓gp54_76, ↓gp54_84, ↓gp54_85, ↓gp54_87, ↓gp54_88, ↓xr59, kr59, ↓xr67, kr67, ↓xr75, kr75, ↓xr82, kr82, ↓xr89, kr89, ↓xr102, kr102, ↓xr115, kr115, ↓xr276, kr276, ↓xr437, kr437, ↓xr444, kr444, ↓xr453, kr453, ↓xr536, kr536, ↓xr553, kr553, hs0, hw0, hs1, hw1, hs2, hw2, hs3, hw3, hs4, hw4, hs5, hw5, hs6, hw6, hs7, hw7, hs8, hw8, hs9, hw9, hs10, hw10, hs11, hw11, hs12, hw12, hs13, hw13, hs14, hw14, hs15, hw15, hs16, hw16, hs17, hw17, hs18, hw18, hs19, hw19, hs20, hw20, hs21, hw21, hs22, hw22, hs23, hw23, hs25, hw25, hs26, hw26, hs27, hw27, hs28, hw28, hs9b, hw9b, hs10b, hw10b, kd0, kd20, kd21, kd22, kd23, kd24, kd25, kd26, kd27, kd28, kd29, kd30, kd31, kd32, kd33, kd34, kd35, kd36, kd37, kd38, kd39, kd40, kd41, kd42, kd54, kd55, kd56, kd57, kd58, kd59, kd67, kd75, kd82, kd89, kd102, kd115, kd276, kd437, kd444, kd451, kd452, kd453, kd534, kd535, kd536, kd553, kd557, kd558, kd559, kd560, kd561, ↓xgI_u, ↓xpI_u, ↓xaI_u, ↓xsI_u, ↓xrk_u, ↓xrk0_u, ↓xob_v, ↓xmb_v, ↓xth_v, ↓xth_x, ↓jn_u, ↓xlen_u, ↓xaL_u, ↓xsL_u, ↓xbl_0, ↓xbl_1, eq_self, inb_n, inb_d, Sh_PI, Sh_PL, dk_PI, dk_PL, dr_PI, dr_PL, ↓reduceIte, Int32.reduceLE, Int32.reduceLT, Int32.reduceToNatClampNeg, Nat.reduceLT, Nat.reduceLeDiff, Nat.reduceEqDiff, Nat.reduceAdd, Nat.reduceMul, hs, t_isJ hs hT, t_inF hx (by omega)]
theorem who_v : ∀ m, m < 128 → ∀ p, p < 7 → ((Int32.ofNat m) >>> (Int32.ofNat p &&& 31)) &&& 1 = if m.testBit p then 1 else 0 := by decide +kernel
theorem who_bit {r : Nat → Int32} {n o p : Nat} (hn : n ≤ 7) (hp : p < n) : (whoS n r o >>> (Int32.ofNat p &&& 31)) &&& 1 = if r (o + p) ≤ 0 then 0 else 1 := by
  rw [who_n hn, who_v _ (whoN_lt hn) p (by omega), whoN_b]
  by_cases e : r (o + p) ≤ 0
  · simp [hp, e]
  · simp [hp, e]
end CALL
