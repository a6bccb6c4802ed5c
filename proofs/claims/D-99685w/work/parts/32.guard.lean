/-! REFUSALS; one call on both sides -/
def room (M : dwSt) (n u : Nat) : Prop := dwN M + n ≤ dwC M ∧ dwU M + u ≤ dwLS
theorem room.fr {S Z : Nat → Nat → Prop} {n u n' u' : Nat} {M M' : dwSt} (h : room M (n + n') (u + u')) (f : fr S Z n u M M') : room M' n' u' := by
  have h1 := f.nn
  have h2 := f.u
  have h3 := f.c
  unfold room at h ⊢
  rw [h3]
  omega
theorem room.le {n u n' u' : Nat} {M : dwSt} (h : room M n u) (hn : n' ≤ n) (hu : u' ≤ u) : room M n' u' := by unfold room at *; omega
def cWo (b : Nat) : Nat → Nat → Prop := fun a _ => b ≤ a ∧ ¬ (b + 54 ≤ a ∧ a ≤ b + 560)
def zWo (b : Nat) : Nat → Nat → Prop := fun a k => cWo b a k ∧ ¬ ptr b a k
def bW (b : Nat) : Nat → Nat → Prop := fun a _ => b ≤ a
def Inv (b : Nat) (M : dwSt) : Prop := ∃ w A, CInv b w M A ∧ TInv b M A
def agree (b : Nat) (M : dwSt) (f : dwSt → dwR9 Int32) (g : dwSt → Option (Int32 × dwSt)) : Prop := ∃ k M1, f M = some (.inl k, M1) ∧ ∃ v M2, g M1 = some (v, M2) ∧ dwI M2 (b + 54) 44 = k ∧ (k = 0 → dwL M2 (b + 561) 0 = v.toInt64) ∧ Inv b M2 ∧ fr (bW b) (bW b) 9000 113000 M M2
section GUARD
variable {b : Nat} {w : Nat → Nat} {M : dwSt} {A : dvA}
theorem cWo_t {b : Nat} : tOff b (cWo b) := fun a k q h => by unfold cWo at q; unfold tKeep at h; omega
theorem tinv_c {n u : Nat} {M' : dwSt} (h : TInv b M A) (f : fr (cWo b) (zWo b) n u M M') : TInv b M' A := h.fr f cWo_t (fun k q => by unfold cWo at q; omega) (fun a k q => q.2)
theorem cinv_t {n u : Nat} {M' : dwSt} (h : CInv b w M A) (f : fr (tW b) nz n u M M') : CInv b w M' A := h.fr f tW_c (fun k q => by unfold tW at q; omega)
theorem agree_mk {A' : dvA} {f : dwSt → dwR9 Int32} {g : dwSt → Option (Int32 × dwSt)} {k v : Int32} (hT : TInv b M A)
    (h1 : ∃ M1 w', f M = some (.inl k, M1) ∧ CInv b w' M1 A' ∧ fr (cWo b) (zWo b) 9000 113000 M M1 ∧ (k = 0 → dwL M1 (b + 561) 0 = v.toInt64))
    (h2 : ∀ M1, TInv b M1 A → ∃ M2 v2, g M1 = some (v2, M2) ∧ TInv b M2 A' ∧ fr (tW b) nz 0 0 M1 M2 ∧ dwI M2 (b + 54) 44 = k ∧ (k = 0 → v2 = v)) : agree b M f g := by
  obtain ⟨M1, w', e1, c1, f1, o1⟩ := h1
  obtain ⟨M2, v2, e2, t2, f2, k2, o2⟩ := h2 M1 (tinv_c hT f1)
  have hn := shN c1.1.1
  refine ⟨k, M1, e1, v2, M2, e2, k2, fun q => ?_, ⟨w', A', cinv_t c1 f2, t2⟩, ?_⟩
  · rw [f2.l (by omega) (fun z => by unfold tW at z; omega), o1 q, o2 q]
  · exact (f1.mono (fun a k q => q.1) (fun a k q => q.1.1) (Nat.le_refl _) (Nat.le_refl _)).t0 (f2.mono (fun a k q => by unfold tW at q; show b ≤ a; omega) (fun a k q => False.elim q) (Nat.le_refl _) (Nat.le_refl _))
theorem cCore_bump {i : Nat} : cCore b w M (aBump A i) = cCore b w M A := rfl
theorem tCore_bump {i : Nat} : tCore b M (aBump A i) = tCore b M A := rfl
/-- a refusal counted and an exception made -/
theorem cinv_bump {i : Nat} (h : CInv b w M A) (hi : i < 2) : CInv b w (dwMk (dwPI M (b + 22) i (dwI M (b + 22) i + 1)) (99, 0) 6) (aBump A i) ∧ fr (cWo b) nz 1 6 M (dwMk (dwPI M (b + 22) i (dwI M (b + 22) i + 1)) (99, 0) 6) := by
  have hn := shN h.1.1
  have f : fr (fun a _ => a = b + 22) nz 1 6 M (dwMk (dwPI M (b + 22) i (dwI M (b + 22) i + 1)) (99, 0) 6) := (fr.pI (S := fun a _ => a = b + 22) (Z := nz) (fr.refl M) (a := b + 22) (k := i) _ (Or.inl rfl)).mk (99, 0) 6
  refine ⟨⟨?_, ?_, ?_⟩, f.mono (fun a k q => by subst q; unfold cWo; omega) (fun _ _ q => q) (Nat.le_refl _) (Nat.le_refl _)⟩
  · rw [cCore_bump]
    exact h.1.fr f (fun a k q hk => by subst q; unfold cKeep imf at hk; omega)
  · rw [di_Mk, if_neg (show ¬ b + 22 = dwN (dwPI M _ _ _) from fun q => by rw [dn_PI] at q; omega), di_PI]
    show (if b + 22 = b + 22 ∧ 0 = i then _ else _) = rset (aRf A) i (aRf A i + 1) 0
    unfold rset
    rcases (by omega : i = 0 ∨ i = 1) with rfl | rfl
    · rw [if_pos ⟨rfl, rfl⟩, if_pos rfl, h.2.1]
    · rw [if_neg (by omega), if_neg (by omega), h.2.1]
  · rw [di_Mk, if_neg (show ¬ b + 22 = dwN (dwPI M _ _ _) from fun q => by rw [dn_PI] at q; omega), di_PI]
    show (if b + 22 = b + 22 ∧ 1 = i then _ else _) = rset (aRf A) i (aRf A i + 1) 1
    unfold rset
    rcases (by omega : i = 0 ∨ i = 1) with rfl | rfl
    · rw [if_neg (by omega), if_neg (by omega), h.2.2]
    · rw [if_pos ⟨rfl, rfl⟩, if_pos rfl, h.2.2]
theorem xthr_u {M : dwSt} {cl : Nat} (h : room M 1 6) : (xthr M cl : dwR9 Unit) = some (.inr (cl, dwN M), dwMk M (99, 0) 6) := if_pos ⟨by unfold room at h; omega, by unfold room at h; omega⟩
theorem c_need1 {v : Int32} (hv : v = 1) : m_X1_need M b v = some (.inl (), M) := by
  subst hv
  unfold m_X1_need
  rw [if_neg (by decide)]
theorem c_need0 {v : Int32} (hv : v = 0) (h : CInv b w M A) (hR : room M 1 6) : ∃ M1 q, m_X1_need M b v = some (.inr (1, q), M1) ∧ CInv b w M1 (aBump A 1) ∧ fr (cWo b) nz 1 6 M M1 := by
  subst hv
  refine ⟨_, dwN (dwPI M (b + 22) 1 (dwI M (b + 22) 1 + 1)), ?_, cinv_bump h (by omega)⟩
  unfold m_X1_need
  rw [if_pos rfl]
  simp only [↓gp0_2, ↓gp0_3, ↓gp0_4, ↓gp0_5, ↓gp0_6, ↓gp0_7, ↓gp0_8, ↓gp0_9, ↓gp0_10, ↓gp0_18, ↓gp0_19, ↓gp0_20, ↓gp0_22, ↓gp23_43, ↓gp23_32, ↓gp23_33, ↓gp23_34, ↓gp23_35, ↓gp23_36, ↓gp29_43, ↓gp29_32, ↓gp29_33, ↓gp29_34, ↓gp29_35, ↓gp29_36, ↓gp54_53, ↓gp54_54, ↓gp54_55, ↓gp54_56, ↓gp54_57, ↓gp54_58, ↓gp54_59, ↓gp54_60, ↓gp54_61, ↓gp54_62, ↓gp54_65, ↓gp54_66, ↓gp54_67, ↓gp54_68, ↓gp54_69, ↓gp54_70, ↓gp54_71, ↓gp54_73, ↓gp54_74, ↓gp54_75, ↓gp54_76, ↓gp54_84, ↓gp54_85, ↓gp54_87, ↓gp54_88, ↓xr59, kr59, ↓xr67, kr67, ↓xr75, kr75, ↓xr82, kr82, ↓xr89, kr89, ↓xr102, kr102, ↓xr115, kr115, ↓xr276, kr276, ↓xr437, kr437, ↓xr444, kr444, ↓xr453, kr453, ↓xr536, kr536, ↓xr553, kr553, hs0, hw0, hs1, hw1, hs2, hw2, hs3, hw3, hs4, hw4, hs5, hw5, hs6, hw6, hs7, hw7, hs8, hw8, hs9, hw9, hs10, hw10, hs11, hw11, hs12, hw12, hs13, hw13, hs14, hw14, hs15, hw15, hs16, hw16, hs17, hw17, hs18, hw18, hs19, hw19, hs20, hw20, hs21, hw21, hs22, hw22, hs23, hw23, hs25, hw25, hs26, hw26, hs27, hw27, hs28, hw28, hs9b, hw9b, hs10b, hw10b, kd0, kd20, kd21, kd22, kd23, kd24, kd25, kd26, kd27, kd28, kd29, kd30, kd31, kd32, kd33, kd34, kd35, kd36, kd37, kd38, kd39, kd40, kd41, kd42, kd54, kd55, kd56, kd57, kd58, kd59, kd67, kd75, kd82, kd89, kd102, kd115, kd276, kd437, kd444, kd451, kd452, kd453, kd534, kd535, kd536, kd553, kd557, kd558, kd559, kd560, kd561, ↓xgI_u, ↓xpI_u, ↓xaI_u, ↓xsI_u, ↓xrk_u, ↓xrk0_u, ↓xob_v, ↓xmb_v, ↓xth_v, ↓xth_x, ↓jn_u, ↓xlen_u, ↓xaL_u, ↓xsL_u, ↓xbl_0, ↓xbl_1, eq_self, inb_n, inb_d, Sh_PI, Sh_PL, dk_PI, dk_PL, dr_PI, dr_PL, ↓reduceIte, Int32.reduceLE, Int32.reduceLT, Int32.reduceToNatClampNeg, Nat.reduceLT, Nat.reduceLeDiff, Nat.reduceEqDiff, Nat.reduceAdd, Nat.reduceMul, h.1.1]
  rw [xthr_u (by unfold room at *; rw [dn_PI, dc_PI, du_PI]; exact hR)]
/-- below n, or not -/
def nin (x : Int32) (n : Nat) : Prop := x < 0 ∨ ∃ k, n ≤ k ∧ k < 2147483648 ∧ x = Int32.ofNat k
theorem in_or (x : Int32) (n : Nat) : (∃ p, p < n ∧ x = Int32.ofNat p) ∨ nin x n := by
  by_cases h : x < 0
  · exact Or.inr (Or.inl h)
  · have h0' : 0 ≤ x := by rw [← Int32.not_lt]; exact h
    have hx := Int32.ofNat_toNatClampNeg x h0'
    have hl : x.toNatClampNeg < 2147483648 := Int32.toNatClampNeg_lt x
    by_cases h2 : x.toNatClampNeg < n
    · exact Or.inl ⟨_, h2, hx.symm⟩
    · exact Or.inr (Or.inr ⟨_, by omega, hl, hx.symm⟩)
theorem c_thereT {p n : Nat} (hp : p < n) (hn : n < 2147483648) : m_X1_needThere M b (Int32.ofNat p) (Int32.ofNat n) = some (.inl (), M) := by
  simp -implicitDefEqProofs only [m_X1_needThere, jn_u, i_neg (show p < 2147483648 by omega), if_false, i_geF hp hn]
theorem c_thereF {x : Int32} {n : Nat} (hx : nin x n) (hn : n < 2147483648) (h : CInv b w M A) (hR : room M 1 6) : ∃ M1 q, m_X1_needThere M b x (Int32.ofNat n) = some (.inr (2, q), M1) ∧ CInv b w M1 (aBump A 0) ∧ fr (cWo b) nz 1 6 M M1 := by
  refine ⟨_, dwN (dwPI M (b + 22) 0 (dwI M (b + 22) 0 + 1)), ?_, cinv_bump h (by omega)⟩
  unfold m_X1_needThere
  rw [jn_u]
  rcases hx with hx | ⟨k, h1, h2, rfl⟩
  · rw [if_pos hx]
    simp only [↓gp0_2, ↓gp0_3, ↓gp0_4, ↓gp0_5, ↓gp0_6, ↓gp0_7, ↓gp0_8, ↓gp0_9, ↓gp0_10, ↓gp0_18, ↓gp0_19, ↓gp0_20, ↓gp0_22, ↓gp23_43, ↓gp23_32, ↓gp23_33, ↓gp23_34, ↓gp23_35, ↓gp23_36, ↓gp29_43, ↓gp29_32, ↓gp29_33, ↓gp29_34, ↓gp29_35, ↓gp29_36, ↓gp54_53, ↓gp54_54, ↓gp54_55, ↓gp54_56, ↓gp54_57, ↓gp54_58, ↓gp54_59, ↓gp54_60, ↓gp54_61, ↓gp54_62, ↓gp54_65, ↓gp54_66, ↓gp54_67, ↓gp54_68, ↓gp54_69, ↓gp54_70, ↓gp54_71, ↓gp54_73, ↓gp54_74, ↓gp54_75, ↓gp54_76, ↓gp54_84, ↓gp54_85, ↓gp54_87, ↓gp54_88, ↓xr59, kr59, ↓xr67, kr67, ↓xr75, kr75, ↓xr82, kr82, ↓xr89, kr89, ↓xr102, kr102, ↓xr115, kr115, ↓xr276, kr276, ↓xr437, kr437, ↓xr444, kr444, ↓xr453, kr453, ↓xr536, kr536, ↓xr553, kr553, hs0, hw0, hs1, hw1, hs2, hw2, hs3, hw3, hs4, hw4, hs5, hw5, hs6, hw6, hs7, hw7, hs8, hw8, hs9, hw9, hs10, hw10, hs11, hw11, hs12, hw12, hs13, hw13, hs14, hw14, hs15, hw15, hs16, hw16, hs17, hw17, hs18, hw18, hs19, hw19, hs20, hw20, hs21, hw21, hs22, hw22, hs23, hw23, hs25, hw25, hs26, hw26, hs27, hw27, hs28, hw28, hs9b, hw9b, hs10b, hw10b, kd0, kd20, kd21, kd22, kd23, kd24, kd25, kd26, kd27, kd28, kd29, kd30, kd31, kd32, kd33, kd34, kd35, kd36, kd37, kd38, kd39, kd40, kd41, kd42, kd54, kd55, kd56, kd57, kd58, kd59, kd67, kd75, kd82, kd89, kd102, kd115, kd276, kd437, kd444, kd451, kd452, kd453, kd534, kd535, kd536, kd553, kd557, kd558, kd559, kd560, kd561, ↓xgI_u, ↓xpI_u, ↓xaI_u, ↓xsI_u, ↓xrk_u, ↓xrk0_u, ↓xob_v, ↓xmb_v, ↓xth_v, ↓xth_x, ↓jn_u, ↓xlen_u, ↓xaL_u, ↓xsL_u, ↓xbl_0, ↓xbl_1, eq_self, inb_n, inb_d, Sh_PI, Sh_PL, dk_PI, dk_PL, dr_PI, dr_PL, ↓reduceIte, Int32.reduceLE, Int32.reduceLT, Int32.reduceToNatClampNeg, Nat.reduceLT, Nat.reduceLeDiff, Nat.reduceEqDiff, Nat.reduceAdd, Nat.reduceMul, h.1.1]
    rw [xthr_u (by unfold room at *; rw [dn_PI, dc_PI, du_PI]; exact hR)]
  · rw [if_neg (by rw [i_neg h2]; exact id), if_pos ((i_le hn h2).mpr h1)]
    simp only [↓gp0_2, ↓gp0_3, ↓gp0_4, ↓gp0_5, ↓gp0_6, ↓gp0_7, ↓gp0_8, ↓gp0_9, ↓gp0_10, ↓gp0_18, ↓gp0_19, ↓gp0_20, ↓gp0_22, ↓gp23_43, ↓gp23_32, ↓gp23_33, ↓gp23_34, ↓gp23_35, ↓gp23_36, ↓gp29_43, ↓gp29_32, ↓gp29_33, ↓gp29_34, ↓gp29_35, ↓gp29_36, ↓gp54_53, ↓gp54_54, ↓gp54_55, ↓gp54_56, ↓gp54_57, ↓gp54_58, ↓gp54_59, ↓gp54_60, ↓gp54_61, ↓gp54_62, ↓gp54_65, ↓gp54_66, ↓gp54_67, ↓gp54_68, ↓gp54_69, ↓gp54_70, ↓gp54_71, ↓gp54_73, ↓gp54_74, ↓gp54_75, ↓gp54_76, ↓gp54_84, ↓gp54_85, ↓gp54_87, ↓gp54_88, ↓xr59, kr59, ↓xr67, kr67, ↓xr75, kr75, ↓xr82, kr82, ↓xr89, kr89, ↓xr102, kr102, ↓xr115, kr115, ↓xr276, kr276, ↓xr437, kr437, ↓xr444, kr444, ↓xr453, kr453, ↓xr536, kr536, ↓xr553, kr553, hs0, hw0, hs1, hw1, hs2, hw2, hs3, hw3, hs4, hw4, hs5, hw5, hs6, hw6, hs7, hw7, hs8, hw8, hs9, hw9, hs10, hw10, hs11, hw11, hs12, hw12, hs13, hw13, hs14, hw14, hs15, hw15, hs16, hw16, hs17, hw17, hs18, hw18, hs19, hw19, hs20, hw20, hs21, hw21, hs22, hw22, hs23, hw23, hs25, hw25, hs26, hw26, hs27, hw27, hs28, hw28, hs9b, hw9b, hs10b, hw10b, kd0, kd20, kd21, kd22, kd23, kd24, kd25, kd26, kd27, kd28, kd29, kd30, kd31, kd32, kd33, kd34, kd35, kd36, kd37, kd38, kd39, kd40, kd41, kd42, kd54, kd55, kd56, kd57, kd58, kd59, kd67, kd75, kd82, kd89, kd102, kd115, kd276, kd437, kd444, kd451, kd452, kd453, kd534, kd535, kd536, kd553, kd557, kd558, kd559, kd560, kd561, ↓xgI_u, ↓xpI_u, ↓xaI_u, ↓xsI_u, ↓xrk_u, ↓xrk0_u, ↓xob_v, ↓xmb_v, ↓xth_v, ↓xth_x, ↓jn_u, ↓xlen_u, ↓xaL_u, ↓xsL_u, ↓xbl_0, ↓xbl_1, eq_self, inb_n, inb_d, Sh_PI, Sh_PL, dk_PI, dk_PL, dr_PI, dr_PL, ↓reduceIte, Int32.reduceLE, Int32.reduceLT, Int32.reduceToNatClampNeg, Nat.reduceLT, Nat.reduceLeDiff, Nat.reduceEqDiff, Nat.reduceAdd, Nat.reduceMul, h.1.1]
    rw [xthr_u (by unfold room at *; rw [dn_PI, dc_PI, du_PI]; exact hR)]
theorem c_needPT {p : Nat} (h : CInv b w M A) (hp : p < tP (aT A)) : m_X1_needPerson M b (Int32.ofNat p) = some (.inl (), M) := by
  have o1 := h.1.ok.1.1
  simp -implicitDefEqProofs only [m_X1_needPerson, ↓xgI_u, ↓xpI_u, ↓xaI_u, ↓xsI_u, ↓xrk_u, ↓xrk0_u, ↓xob_v, ↓xmb_v, ↓xth_v, ↓xth_x, ↓jn_u, ↓xlen_u, ↓xaL_u, ↓xsL_u, ↓xbl_0, ↓xbl_1, eq_self, inb_n, inb_d, Sh_PI, Sh_PL, dk_PI, dk_PL, dr_PI, dr_PL, ↓reduceIte, Int32.reduceLE, Int32.reduceLT, Int32.reduceToNatClampNeg, Nat.reduceLT, Nat.reduceLeDiff, Nat.reduceEqDiff, Nat.reduceAdd, Nat.reduceMul, kd0 h.1.1, c_persons h.1.1 h.1.2.1, c_thereT hp (by omega)]
theorem c_needPF {x : Int32} (h : CInv b w M A) (hx : nin x (tP (aT A))) (hR : room M 1 6) : ∃ M1 q, m_X1_needPerson M b x = some (.inr (2, q), M1) ∧ CInv b w M1 (aBump A 0) ∧ fr (cWo b) nz 1 6 M M1 := by
  have o1 := h.1.ok.1.1
  obtain ⟨M1, q, e, h1, h2⟩ := c_thereF hx (by omega) h hR
  refine ⟨M1, q, ?_, h1, h2⟩
  simp -implicitDefEqProofs only [m_X1_needPerson, ↓xgI_u, ↓xpI_u, ↓xaI_u, ↓xsI_u, ↓xrk_u, ↓xrk0_u, ↓xob_v, ↓xmb_v, ↓xth_v, ↓xth_x, ↓jn_u, ↓xlen_u, ↓xaL_u, ↓xsL_u, ↓xbl_0, ↓xbl_1, eq_self, inb_n, inb_d, Sh_PI, Sh_PL, dk_PI, dk_PL, dr_PI, dr_PL, ↓reduceIte, Int32.reduceLE, Int32.reduceLT, Int32.reduceToNatClampNeg, Nat.reduceLT, Nat.reduceLeDiff, Nat.reduceEqDiff, Nat.reduceAdd, Nat.reduceMul, kd0 h.1.1, c_persons h.1.1 h.1.2.1, e]
theorem c_needJT {p : Nat} (h : CInv b w M A) (hp : p < tJ (aT A)) : m_X1_needJoke M b (Int32.ofNat p) = some (.inl (), M) := by
  have o1 := h.1.ok.1.2.1
  simp -implicitDefEqProofs only [m_X1_needJoke, ↓xgI_u, ↓xpI_u, ↓xaI_u, ↓xsI_u, ↓xrk_u, ↓xrk0_u, ↓xob_v, ↓xmb_v, ↓xth_v, ↓xth_x, ↓jn_u, ↓xlen_u, ↓xaL_u, ↓xsL_u, ↓xbl_0, ↓xbl_1, eq_self, inb_n, inb_d, Sh_PI, Sh_PL, dk_PI, dk_PL, dr_PI, dr_PL, ↓reduceIte, Int32.reduceLE, Int32.reduceLT, Int32.reduceToNatClampNeg, Nat.reduceLT, Nat.reduceLeDiff, Nat.reduceEqDiff, Nat.reduceAdd, Nat.reduceMul, kd0 h.1.1, c_jokes h.1.1 h.1.2.1, c_thereT hp (by omega)]
theorem c_needJF {x : Int32} (h : CInv b w M A) (hx : nin x (tJ (aT A))) (hR : room M 1 6) : ∃ M1 q, m_X1_needJoke M b x = some (.inr (2, q), M1) ∧ CInv b w M1 (aBump A 0) ∧ fr (cWo b) nz 1 6 M M1 := by
  have o1 := h.1.ok.1.2.1
  obtain ⟨M1, q, e, h1, h2⟩ := c_thereF hx (by omega) h hR
  refine ⟨M1, q, ?_, h1, h2⟩
  simp -implicitDefEqProofs only [m_X1_needJoke, ↓xgI_u, ↓xpI_u, ↓xaI_u, ↓xsI_u, ↓xrk_u, ↓xrk0_u, ↓xob_v, ↓xmb_v, ↓xth_v, ↓xth_x, ↓jn_u, ↓xlen_u, ↓xaL_u, ↓xsL_u, ↓xbl_0, ↓xbl_1, eq_self, inb_n, inb_d, Sh_PI, Sh_PL, dk_PI, dk_PL, dr_PI, dr_PL, ↓reduceIte, Int32.reduceLE, Int32.reduceLT, Int32.reduceToNatClampNeg, Nat.reduceLT, Nat.reduceLeDiff, Nat.reduceEqDiff, Nat.reduceAdd, Nat.reduceMul, kd0 h.1.1, c_jokes h.1.1 h.1.2.1, e]
theorem c_twoT {j p : Nat} (h : CInv b w M A) (hj : j < tJ (aT A)) (hp : p < tP (aT A)) : m_X1_needTwo M b (Int32.ofNat j) (Int32.ofNat p) = some (.inl (), M) := by
  simp -implicitDefEqProofs only [m_X1_needTwo, ↓xgI_u, ↓xpI_u, ↓xaI_u, ↓xsI_u, ↓xrk_u, ↓xrk0_u, ↓xob_v, ↓xmb_v, ↓xth_v, ↓xth_x, ↓jn_u, ↓xlen_u, ↓xaL_u, ↓xsL_u, ↓xbl_0, ↓xbl_1, eq_self, inb_n, inb_d, Sh_PI, Sh_PL, dk_PI, dk_PL, dr_PI, dr_PL, ↓reduceIte, Int32.reduceLE, Int32.reduceLT, Int32.reduceToNatClampNeg, Nat.reduceLT, Nat.reduceLeDiff, Nat.reduceEqDiff, Nat.reduceAdd, Nat.reduceMul, kd0 h.1.1, c_needJT h hj, c_needPT h hp]
theorem c_twoF {x y : Int32} (h : CInv b w M A) (hx : nin x (tJ (aT A)) ∨ nin y (tP (aT A))) (hR : room M 1 6) : ∃ M1 q, m_X1_needTwo M b x y = some (.inr (2, q), M1) ∧ CInv b w M1 (aBump A 0) ∧ fr (cWo b) nz 1 6 M M1 := by
  rcases in_or x (tJ (aT A)) with ⟨j, hj, rfl⟩ | hxx
  · have hy : nin y (tP (aT A)) := by
      rcases hx with hx | hx
      · exfalso
        have o1 := h.1.ok.1.2.1
        rcases hx with hx | ⟨k, h1, h2, h3⟩
        · rw [i_neg (by omega)] at hx; exact hx
        · rw [i_inj (by omega) h2] at h3; omega
      · exact hx
    obtain ⟨M1, q, e, h1, h2⟩ := c_needPF h hy hR
    refine ⟨M1, q, ?_, h1, h2⟩
    simp -implicitDefEqProofs only [m_X1_needTwo, ↓xgI_u, ↓xpI_u, ↓xaI_u, ↓xsI_u, ↓xrk_u, ↓xrk0_u, ↓xob_v, ↓xmb_v, ↓xth_v, ↓xth_x, ↓jn_u, ↓xlen_u, ↓xaL_u, ↓xsL_u, ↓xbl_0, ↓xbl_1, eq_self, inb_n, inb_d, Sh_PI, Sh_PL, dk_PI, dk_PL, dr_PI, dr_PL, ↓reduceIte, Int32.reduceLE, Int32.reduceLT, Int32.reduceToNatClampNeg, Nat.reduceLT, Nat.reduceLeDiff, Nat.reduceEqDiff, Nat.reduceAdd, Nat.reduceMul, kd0 h.1.1, c_needJT h hj, e]
  · obtain ⟨M1, q, e, h1, h2⟩ := c_needJF h hxx hR
    refine ⟨M1, q, ?_, h1, h2⟩
    simp -implicitDefEqProofs only [m_X1_needTwo, ↓xgI_u, ↓xpI_u, ↓xaI_u, ↓xsI_u, ↓xrk_u, ↓xrk0_u, ↓xob_v, ↓xmb_v, ↓xth_v, ↓xth_x, ↓jn_u, ↓xlen_u, ↓xaL_u, ↓xsL_u, ↓xbl_0, ↓xbl_1, eq_self, inb_n, inb_d, Sh_PI, Sh_PL, dk_PI, dk_PL, dr_PI, dr_PL, ↓reduceIte, Int32.reduceLE, Int32.reduceLT, Int32.reduceToNatClampNeg, Nat.reduceLT, Nat.reduceLeDiff, Nat.reduceEqDiff, Nat.reduceAdd, Nat.reduceMul, kd0 h.1.1, e]
/-! the twin's refusals -/
def inV (x lo hi : Int32) : Int32 := if x < lo then 0 else if hi < x then 0 else 1
theorem inV_01 (x lo hi : Int32) : inV x lo hi = 0 ∨ inV x lo hi = 1 := by
  unfold inV
  split
  · exact Or.inl rfl
  · split
    · exact Or.inl rfl
    · exact Or.inr rfl
theorem t_in (x lo hi : Int32) : m_X10_in x lo hi = some (inV x lo hi) := by
  unfold m_X10_in inV
  split
  · rfl
  · split <;> rfl
theorem c_isIn (x lo hi : Int32) : m_X1_isIn x lo hi = some (inV x lo hi) := by
  unfold m_X1_isIn inV
  split
  · rfl
  · split <;> rfl
theorem inV_n {x : Int32} {n : Nat} (hn : n < 2147483647) (h : inV x 0 (Int32.ofNat n) = 1) : ∃ k, k < n + 1 ∧ x = Int32.ofNat k := by
  unfold inV at h
  by_cases h1 : x < 0
  · rw [if_pos h1] at h; exact absurd h (by decide)
  · rw [if_neg h1] at h
    by_cases h2 : Int32.ofNat n < x
    · rw [if_pos h2] at h; exact absurd h (by decide)
    · have h3 := Int32.not_lt.mp h2
      have h0' : 0 ≤ x := by rw [← Int32.not_lt]; exact h1
      have hx := Int32.ofNat_toNatClampNeg x h0'
      have hl : x.toNatClampNeg < 2147483648 := Int32.toNatClampNeg_lt x
      rw [← hx, i_le hl (by omega)] at h3
      exact ⟨_, by omega, hx.symm⟩
theorem c_part (x : Int32) : m_X1_isPart x = some (inV x 0 1) := by
  unfold m_X1_isPart
  by_cases h0 : x = 0
  · rw [if_pos h0, h0]; rfl
  · rw [if_neg h0]
    by_cases h1 : x = 1
    · rw [if_pos h1, h1]; rfl
    · rw [if_neg h1]
      rcases inV_01 x 0 1 with h | h
      · rw [h]
      · obtain ⟨k, hk, rfl⟩ := inV_n (n := 1) (by omega) h
        rcases (by omega : k = 0 ∨ k = 1) with rfl | rfl
        · exact absurd rfl h0
        · exact absurd rfl h1
theorem t_last {n k : Nat} (hn : n < 2147483648) (hk : k < 2147483648) : (Int32.ofNat n - 1 < Int32.ofNat k) ↔ n ≤ k := by
  cases n with
  | zero =>
    constructor
    · intro _; omega
    · intro _
      rw [Int32.lt_iff_toInt_lt, i_toInt hk, show (Int32.ofNat 0 - 1).toInt = -1 from rfl]
      omega
  | succ n => rw [x_s1, i_lt (by omega) hk]; omega
theorem t_inT {p n : Nat} (hp : p < n) (hn : n < 2147483648) : inV (Int32.ofNat p) 0 (Int32.ofNat n - 1) = 1 := by
  unfold inV
  rw [if_neg (by rw [i_neg (by omega)]; exact id), if_neg (by rw [t_last hn (by omega)]; omega)]
theorem t_inF {x : Int32} {n : Nat} (hx : nin x n) (hn : n < 2147483648) : inV x 0 (Int32.ofNat n - 1) = 0 := by
  unfold inV
  rcases hx with hx | ⟨k, h1, h2, rfl⟩
  · rw [if_pos hx]
  · rw [if_neg (by rw [i_neg (by omega)]; exact id), if_pos ((t_last hn h2).mpr h1)]
theorem xbl_in {ρ : Type} {x lo hi : Int32} {X : Option ρ} : xbl (inV x lo hi) X = X := by
  rcases inV_01 x lo hi with h | h <;> rw [h]
  · exact xbl_0
  · exact xbl_1
theorem t_isP (hs : Sh b M) (hT : tTold b M (aT A)) (x : Int32) : m_X10_isPerson M (b + 54) x = some (inV x 0 (Int32.ofNat (tP (aT A)) - 1)) := by
  simp -implicitDefEqProofs only [m_X10_isPerson, ↓gp0_2, ↓gp0_3, ↓gp0_4, ↓gp0_5, ↓gp0_6, ↓gp0_7, ↓gp0_8, ↓gp0_9, ↓gp0_10, ↓gp0_18, ↓gp0_19, ↓gp0_20, ↓gp0_22, ↓gp23_43, ↓gp23_32, ↓gp23_33, ↓gp23_34, ↓gp23_35, ↓gp23_36, ↓gp29_43, ↓gp29_32, ↓gp29_33, ↓gp29_34, ↓gp29_35, ↓gp29_36, ↓gp54_53, ↓gp54_54, ↓gp54_55, ↓gp54_56, ↓gp54_57, ↓gp54_58, ↓gp54_59, ↓gp54_60, ↓gp54_61, ↓gp54_62, ↓gp54_65, ↓gp54_66, ↓gp54_67, ↓gp54_68, ↓gp54_69, ↓gp54_70, ↓gp54_71, ↓gp54_73, ↓gp54_74, ↓gp54_75, ↓gp54_76, ↓gp54_84, ↓gp54_85, ↓gp54_87, ↓gp54_88, ↓xr59, kr59, ↓xr67, kr67, ↓xr75, kr75, ↓xr82, kr82, ↓xr89, kr89, ↓xr102, kr102, ↓xr115, kr115, ↓xr276, kr276, ↓xr437, kr437, ↓xr444, kr444, ↓xr453, kr453, ↓xr536, kr536, ↓xr553, kr553, hs0, hw0, hs1, hw1, hs2, hw2, hs3, hw3, hs4, hw4, hs5, hw5, hs6, hw6, hs7, hw7, hs8, hw8, hs9, hw9, hs10, hw10, hs11, hw11, hs12, hw12, hs13, hw13, hs14, hw14, hs15, hw15, hs16, hw16, hs17, hw17, hs18, hw18, hs19, hw19, hs20, hw20, hs21, hw21, hs22, hw22, hs23, hw23, hs25, hw25, hs26, hw26, hs27, hw27, hs28, hw28, hs9b, hw9b, hs10b, hw10b, kd0, kd20, kd21, kd22, kd23, kd24, kd25, kd26, kd27, kd28, kd29, kd30, kd31, kd32, kd33, kd34, kd35, kd36, kd37, kd38, kd39, kd40, kd41, kd42, kd54, kd55, kd56, kd57, kd58, kd59, kd67, kd75, kd82, kd89, kd102, kd115, kd276, kd437, kd444, kd451, kd452, kd453, kd534, kd535, kd536, kd553, kd557, kd558, kd559, kd560, kd561, ↓xgI_u, ↓xpI_u, ↓xaI_u, ↓xsI_u, ↓xrk_u, ↓xrk0_u, ↓xob_v, ↓xmb_v, ↓xth_v, ↓xth_x, ↓jn_u, ↓xlen_u, ↓xaL_u, ↓xsL_u, ↓xbl_0, ↓xbl_1, eq_self, inb_n, inb_d, Sh_PI, Sh_PL, dk_PI, dk_PL, dr_PI, dr_PL, ↓reduceIte, Int32.reduceLE, Int32.reduceLT, Int32.reduceToNatClampNeg, Nat.reduceLT, Nat.reduceLeDiff, Nat.reduceEqDiff, Nat.reduceAdd, Nat.reduceMul, hs, hT.1, t_in, xbl_in]
theorem t_isJ (hs : Sh b M) (hT : tTold b M (aT A)) (x : Int32) : m_X10_isJoke M (b + 54) x = some (inV x 0 (Int32.ofNat (tJ (aT A)) - 1)) := by
  simp -implicitDefEqProofs only [m_X10_isJoke, ↓gp0_2, ↓gp0_3, ↓gp0_4, ↓gp0_5, ↓gp0_6, ↓gp0_7, ↓gp0_8, ↓gp0_9, ↓gp0_10, ↓gp0_18, ↓gp0_19, ↓gp0_20, ↓gp0_22, ↓gp23_43, ↓gp23_32, ↓gp23_33, ↓gp23_34, ↓gp23_35, ↓gp23_36, ↓gp29_43, ↓gp29_32, ↓gp29_33, ↓gp29_34, ↓gp29_35, ↓gp29_36, ↓gp54_53, ↓gp54_54, ↓gp54_55, ↓gp54_56, ↓gp54_57, ↓gp54_58, ↓gp54_59, ↓gp54_60, ↓gp54_61, ↓gp54_62, ↓gp54_65, ↓gp54_66, ↓gp54_67, ↓gp54_68, ↓gp54_69, ↓gp54_70, ↓gp54_71, ↓gp54_73, ↓gp54_74, ↓gp54_75, ↓gp54_76, ↓gp54_84, ↓gp54_85, ↓gp54_87, ↓gp54_88, ↓xr59, kr59, ↓xr67, kr67, ↓xr75, kr75, ↓xr82, kr82, ↓xr89, kr89, ↓xr102, kr102, ↓xr115, kr115, ↓xr276, kr276, ↓xr437, kr437, ↓xr444, kr444, ↓xr453, kr453, ↓xr536, kr536, ↓xr553, kr553, hs0, hw0, hs1, hw1, hs2, hw2, hs3, hw3, hs4, hw4, hs5, hw5, hs6, hw6, hs7, hw7, hs8, hw8, hs9, hw9, hs10, hw10, hs11, hw11, hs12, hw12, hs13, hw13, hs14, hw14, hs15, hw15, hs16, hw16, hs17, hw17, hs18, hw18, hs19, hw19, hs20, hw20, hs21, hw21, hs22, hw22, hs23, hw23, hs25, hw25, hs26, hw26, hs27, hw27, hs28, hw28, hs9b, hw9b, hs10b, hw10b, kd0, kd20, kd21, kd22, kd23, kd24, kd25, kd26, kd27, kd28, kd29, kd30, kd31, kd32, kd33, kd34, kd35, kd36, kd37, kd38, kd39, kd40, kd41, kd42, kd54, kd55, kd56, kd57, kd58, kd59, kd67, kd75, kd82, kd89, kd102, kd115, kd276, kd437, kd444, kd451, kd452, kd453, kd534, kd535, kd536, kd553, kd557, kd558, kd559, kd560, kd561, ↓xgI_u, ↓xpI_u, ↓xaI_u, ↓xsI_u, ↓xrk_u, ↓xrk0_u, ↓xob_v, ↓xmb_v, ↓xth_v, ↓xth_x, ↓jn_u, ↓xlen_u, ↓xaL_u, ↓xsL_u, ↓xbl_0, ↓xbl_1, eq_self, inb_n, inb_d, Sh_PI, Sh_PL, dk_PI, dk_PL, dr_PI, dr_PL, ↓reduceIte, Int32.reduceLE, Int32.reduceLT, Int32.reduceToNatClampNeg, Nat.reduceLT, Nat.reduceLeDiff, Nat.reduceEqDiff, Nat.reduceAdd, Nat.reduceMul, hs, hT.2.1, t_in, xbl_in]
/-- a call begins: nothing thrown -/
theorem tinv_z (h : TInv b M A) : TInv b (dwPI M (b + 54) 44 0) A ∧ fr (tW b) nz 0 0 M (dwPI M (b + 54) 44 0) ∧ dwI (dwPI M (b + 54) 44 0) (b + 54) 44 = 0 := by
  have f : fr (fun a k => a = b + 54 ∧ k = 44) nz 0 0 M (dwPI M (b + 54) 44 0) := (fr.refl M).pI _ (Or.inl ⟨rfl, rfl⟩)
  refine ⟨h.fr f (fun a k q hk => ?_) (fun k q => by omega) nz_p, f.mono (fun a k q => by unfold tW; omega) (fun _ _ q => q) (Nat.le_refl _) (Nat.le_refl _), di_eq⟩
  unfold tKeep at hk
  omega
theorem t_bad0 {x i : Int32} (hs : Sh b M) (h : dwI M (b + 54) 44 = 0) : m_X10_bad M (b + 54) 0 x i = some (0, M) := by
  simp -implicitDefEqProofs only [m_X10_bad, ↓gp0_2, ↓gp0_3, ↓gp0_4, ↓gp0_5, ↓gp0_6, ↓gp0_7, ↓gp0_8, ↓gp0_9, ↓gp0_10, ↓gp0_18, ↓gp0_19, ↓gp0_20, ↓gp0_22, ↓gp23_43, ↓gp23_32, ↓gp23_33, ↓gp23_34, ↓gp23_35, ↓gp23_36, ↓gp29_43, ↓gp29_32, ↓gp29_33, ↓gp29_34, ↓gp29_35, ↓gp29_36, ↓gp54_53, ↓gp54_54, ↓gp54_55, ↓gp54_56, ↓gp54_57, ↓gp54_58, ↓gp54_59, ↓gp54_60, ↓gp54_61, ↓gp54_62, ↓gp54_65, ↓gp54_66, ↓gp54_67, ↓gp54_68, ↓gp54_69, ↓gp54_70, ↓gp54_71, ↓gp54_73, ↓gp54_74, ↓gp54_75, ↓gp54_76, ↓gp54_84, ↓gp54_85, ↓gp54_87, ↓gp54_88, ↓xr59, kr59, ↓xr67, kr67, ↓xr75, kr75, ↓xr82, kr82, ↓xr89, kr89, ↓xr102, kr102, ↓xr115, kr115, ↓xr276, kr276, ↓xr437, kr437, ↓xr444, kr444, ↓xr453, kr453, ↓xr536, kr536, ↓xr553, kr553, hs0, hw0, hs1, hw1, hs2, hw2, hs3, hw3, hs4, hw4, hs5, hw5, hs6, hw6, hs7, hw7, hs8, hw8, hs9, hw9, hs10, hw10, hs11, hw11, hs12, hw12, hs13, hw13, hs14, hw14, hs15, hw15, hs16, hw16, hs17, hw17, hs18, hw18, hs19, hw19, hs20, hw20, hs21, hw21, hs22, hw22, hs23, hw23, hs25, hw25, hs26, hw26, hs27, hw27, hs28, hw28, hs9b, hw9b, hs10b, hw10b, kd0, kd20, kd21, kd22, kd23, kd24, kd25, kd26, kd27, kd28, kd29, kd30, kd31, kd32, kd33, kd34, kd35, kd36, kd37, kd38, kd39, kd40, kd41, kd42, kd54, kd55, kd56, kd57, kd58, kd59, kd67, kd75, kd82, kd89, kd102, kd115, kd276, kd437, kd444, kd451, kd452, kd453, kd534, kd535, kd536, kd553, kd557, kd558, kd559, kd560, kd561, ↓xgI_u, ↓xpI_u, ↓xaI_u, ↓xsI_u, ↓xrk_u, ↓xrk0_u, ↓xob_v, ↓xmb_v, ↓xth_v, ↓xth_x, ↓jn_u, ↓xlen_u, ↓xaL_u, ↓xsL_u, ↓xbl_0, ↓xbl_1, eq_self, inb_n, inb_d, Sh_PI, Sh_PL, dk_PI, dk_PL, dr_PI, dr_PL, ↓reduceIte, Int32.reduceLE, Int32.reduceLT, Int32.reduceToNatClampNeg, Nat.reduceLT, Nat.reduceLeDiff, Nat.reduceEqDiff, Nat.reduceAdd, Nat.reduceMul, hs, h, if_true]
theorem t_bad1 {x : Int32} {i : Nat} (hT : TInv b M A) (h : dwI M (b + 54) 44 = 0) (hx : x ≠ 0) (hi : i < 2) : ∃ M1, m_X10_bad M (b + 54) 1 x (Int32.ofNat i) = some (1, M1) ∧ TInv b M1 (aBump A i) ∧ dwI M1 (b + 54) 44 = x ∧ fr (tW b) nz 0 0 M M1 := by
  have hs := hT.1.1
  have hn := shN hs
  have f : fr (fun a k => (a = b + 54 ∧ k = 44) ∨ a = b + 56) nz 0 0 M (dwPI (dwPI M (b + 54) 44 x) (b + 56) i (dwI M (b + 56) i + 1)) := ((fr.refl M).pI _ (Or.inl (Or.inl ⟨rfl, rfl⟩))).pI _ (Or.inl (Or.inr rfl))
  refine ⟨_, ?_, ⟨?_, ?_, ?_⟩, ?_, f.mono (fun a k q => by unfold tW; omega) (fun _ _ q => q) (Nat.le_refl _) (Nat.le_refl _)⟩
  · simp -implicitDefEqProofs only [m_X10_bad, ↓gp0_2, ↓gp0_3, ↓gp0_4, ↓gp0_5, ↓gp0_6, ↓gp0_7, ↓gp0_8, ↓gp0_9, ↓gp0_10, ↓gp0_18, ↓gp0_19, ↓gp0_20, ↓gp0_22, ↓gp23_43, ↓gp23_32, ↓gp23_33, ↓gp23_34, ↓gp23_35, ↓gp23_36, ↓gp29_43, ↓gp29_32, ↓gp29_33, ↓gp29_34, ↓gp29_35, ↓gp29_36, ↓gp54_53, ↓gp54_54, ↓gp54_55, ↓gp54_56, ↓gp54_57, ↓gp54_58, ↓gp54_59, ↓gp54_60, ↓gp54_61, ↓gp54_62, ↓gp54_65, ↓gp54_66, ↓gp54_67, ↓gp54_68, ↓gp54_69, ↓gp54_70, ↓gp54_71, ↓gp54_73, ↓gp54_74, ↓gp54_75, ↓gp54_76, ↓gp54_84, ↓gp54_85, ↓gp54_87, ↓gp54_88, ↓xr59, kr59, ↓xr67, kr67, ↓xr75, kr75, ↓xr82, kr82, ↓xr89, kr89, ↓xr102, kr102, ↓xr115, kr115, ↓xr276, kr276, ↓xr437, kr437, ↓xr444, kr444, ↓xr453, kr453, ↓xr536, kr536, ↓xr553, kr553, hs0, hw0, hs1, hw1, hs2, hw2, hs3, hw3, hs4, hw4, hs5, hw5, hs6, hw6, hs7, hw7, hs8, hw8, hs9, hw9, hs10, hw10, hs11, hw11, hs12, hw12, hs13, hw13, hs14, hw14, hs15, hw15, hs16, hw16, hs17, hw17, hs18, hw18, hs19, hw19, hs20, hw20, hs21, hw21, hs22, hw22, hs23, hw23, hs25, hw25, hs26, hw26, hs27, hw27, hs28, hw28, hs9b, hw9b, hs10b, hw10b, kd0, kd20, kd21, kd22, kd23, kd24, kd25, kd26, kd27, kd28, kd29, kd30, kd31, kd32, kd33, kd34, kd35, kd36, kd37, kd38, kd39, kd40, kd41, kd42, kd54, kd55, kd56, kd57, kd58, kd59, kd67, kd75, kd82, kd89, kd102, kd115, kd276, kd437, kd444, kd451, kd452, kd453, kd534, kd535, kd536, kd553, kd557, kd558, kd559, kd560, kd561, ↓xgI_u, ↓xpI_u, ↓xaI_u, ↓xsI_u, ↓xrk_u, ↓xrk0_u, ↓xob_v, ↓xmb_v, ↓xth_v, ↓xth_x, ↓jn_u, ↓xlen_u, ↓xaL_u, ↓xsL_u, ↓xbl_0, ↓xbl_1, eq_self, inb_n, inb_d, Sh_PI, Sh_PL, dk_PI, dk_PL, dr_PI, dr_PL, ↓reduceIte, Int32.reduceLE, Int32.reduceLT, Int32.reduceToNatClampNeg, Nat.reduceLT, Nat.reduceLeDiff, Nat.reduceEqDiff, Nat.reduceAdd, Nat.reduceMul, hs, h, if_true, if_false, hi, i_nat (show i < 2147483648 by omega), show ((1 : Int32) = 0) = False from eq_false (by decide)]
    simp (disch := omega) only [di_ne, di_eq, hx, if_false]
  · rw [tCore_bump]
    exact hT.1.fr f (fun a k q hk => by unfold tKeep at hk; omega) nz_p
  · rw [di_PI]
    show (if b + 56 = b + 56 ∧ 0 = i then _ else _) = rset (aRf A) i (aRf A i + 1) 0
    unfold rset
    rcases (by omega : i = 0 ∨ i = 1) with rfl | rfl
    · rw [if_pos ⟨rfl, rfl⟩, if_pos rfl, hT.2.1]
    · rw [if_neg (by omega), if_neg (by omega), di_ne (by omega), hT.2.1]
  · rw [di_PI]
    show (if b + 56 = b + 56 ∧ 1 = i then _ else _) = rset (aRf A) i (aRf A i + 1) 1
    unfold rset
    rcases (by omega : i = 0 ∨ i = 1) with rfl | rfl
    · rw [if_neg (by omega), if_neg (by omega), di_ne (by omega), hT.2.2]
    · rw [if_pos ⟨rfl, rfl⟩, if_pos rfl, hT.2.2]
  · rw [di_ne (by omega), di_eq]
end GUARD
