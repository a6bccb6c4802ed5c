/-! all put into an image -/
def sPu (b i : Nat) : Nat → Nat → Prop := fun a k => (a = b + 54 ∧ k = 81) ∨ a = b + 554 + i
def flV (M : dwSt) (b q : Nat) : Int32 := if q = 0 then dwI M (b + 54) 78 else if q < 80 then dwI M (b + 534) (q - 1) else dwI M (b + 537 + (q - 80) / 79) ((q - 80) % 79)
theorem flV_n {M : dwSt} {b k : Nat} (hk : k < 79) : flV M b (1 + k) = dwI M (b + 534) k := by
  unfold flV; rw [if_neg (by omega), if_pos (by omega)]; congr 1; omega
theorem flV_r {M : dwSt} {b r k : Nat} (hk : k < 79) : flV M b (80 + 79 * r + k) = dwI M (b + 537 + r) k := by
  unfold flV; rw [if_neg (by omega), if_neg (by omega), show (80 + 79 * r + k - 80) / 79 = r by omega, show (80 + 79 * r + k - 80) % 79 = k by omega]
section CALL
variable {b i : Nat} {M0 M1 : dwSt} {ρ : Type}
def puT (b : Nat) (M0 : dwSt) (i q : Nat) (M1 : dwSt) : Prop := fr (sPu b i) nz 0 0 M0 M1 ∧ dwI M1 (b + 54) 81 = Int32.ofNat q ∧ ∀ k, k < q → dwI M1 (b + 554 + i) k = flV M0 b k
theorem puT_s {q a k : Nat} {x : Int32} (h : puT b M0 i q M1) (hx : x = flV M0 b q) (hc : x = dwI M0 a k) (ha : a < b + 554) (hk : a = b + 54 → k ≠ 81) : puT b M0 i (q + 1) (dwPI (dwPI (dwPI M1 (b + 554 + i) q x) (b + 54) 81 (Int32.ofNat (q + 1))) a k x) := by
  obtain ⟨h1, h2, h3⟩ := h
  refine ⟨fr.pS ((h1.pI _ (Or.inl (Or.inr rfl))).pI _ (Or.inl (Or.inl ⟨rfl, rfl⟩))) hc, ?_, fun j hj => ?_⟩
  · rw [di_PI, if_neg (fun e => hk e.1.symm e.2.symm), di_PI, if_pos ⟨rfl, rfl⟩]
  · rw [di_PI, if_neg (by omega), di_PI, if_neg (by omega), di_PI]
    by_cases e : j = q
    · rw [if_pos ⟨rfl, e⟩, hx, e]
    · rw [if_neg (fun z => e z.2)]; exact h3 j (by omega)
theorem puT_e {q : Nat} (hs : Sh b M0) (h : puT b M0 i q M1) {a k : Nat} (ha : a < b + 554) (hk : a = b + 54 → k ≠ 81) : dwI M1 a k = dwI M0 a k := by
  have hn := shN hs
  exact h.1.i (by omega) (fun z => by rcases z with z | z; · exact hk z.1 z.2
                                      · omega)
theorem t_pA62 {E : Option ρ → Prop} {K : dwSt → Option ρ} {r : Nat} (hs : Sh b M0) (hi : i < 3) (hr : r < 16) (h : puT b M0 i (80 + 79 * r) M1) (hE : ∀ M2, puT b M0 i (80 + 79 * (r + 1)) M2 → E (K M2)) : E (L_X10_putsAll_62 (b + 54) (b + 554 + i) 0 (Int32.ofNat r) K 1000000 0 M1) := by
  refine lpx (E := E) (fun f k (M2 : dwSt) => L_X10_putsAll_62 (b + 54) (b + 554 + i) 0 (Int32.ofNat r) K f (Int32.ofNat k) M2) 79 (fun k M2 => puT b M0 i (80 + 79 * r + k) M2) ?_ ?_ 1000000 0 M1 (by omega) (by omega) h
  · intro f M2 h2
    have e79 : ((79 : Int32) ≤ Int32.ofNat 79) = True := i_geT 79
    simp -implicitDefEqProofs only [L_X10_putsAll_62, e79, if_true]
    exact hE M2 (by rw [show 80 + 79 * (r + 1) = 80 + 79 * r + 79 by omega]; exact h2)
  · intro f k M2 hk h2 hnx
    have g := hs.fr h2.1 nz_p
    have e79 : ((79 : Int32) ≤ Int32.ofNat k) = False := i_geF (n := 79) hk (by omega)
    have ex := puT_e hs h2 (a := b + 537 + r) (k := k) (by omega) (by omega)
    have ep := t_puts0 (x := dwI M0 (b + 537 + r) k) g h2.2.1 hi (by omega)
    have e2 := puT_s (x := dwI M0 (b + 537 + r) k) (a := b + 537 + r) (k := k) h2 (flV_r hk).symm rfl (by omega) (by omega)
    simp -implicitDefEqProofs only [L_X10_putsAll_62, ↓gp0_2, ↓gp0_3, ↓gp0_4, ↓gp0_5, ↓gp0_6, ↓gp0_7, ↓gp0_8, ↓gp0_9, ↓gp0_10, ↓gp0_18, ↓gp0_19, ↓gp0_20, ↓gp0_22, ↓gp23_43, ↓gp23_32, ↓gp23_33, ↓gp23_34, ↓gp23_35, ↓gp23_36, ↓gp29_43, ↓gp29_32, ↓gp29_33, ↓gp29_34, ↓gp29_35, ↓gp29_36, ↓gp54_53, ↓gp54_54, ↓gp54_55, ↓gp54_56, ↓gp54_57, ↓gp54_58, ↓gp54_59, ↓gp54_60, ↓gp54_61, ↓gp54_62, ↓gp54_65, ↓gp54_66, ↓gp54_67, ↓gp54_68, ↓gp54_69, ↓gp54_70, ↓gp54_71, ↓gp54_73, ↓gp54_74, ↓gp54_75, ↓gp54_76, ↓gp54_84, ↓gp54_85, ↓gp54_87, ↓gp54_88, ↓xr59, kr59, ↓xr67, kr67, ↓xr75, kr75, ↓xr82, kr82, ↓xr89, kr89, ↓xr102, kr102, ↓xr115, kr115, ↓xr276, kr276, ↓xr437, kr437, ↓xr444, kr444, ↓xr453, kr453, ↓xr536, kr536, ↓xr553, kr553, hs0, hw0, hs1, hw1, hs2, hw2, hs3, hw3, hs4, hw4, hs5, hw5, hs6, hw6, hs7, hw7, hs8, hw8, hs9, hw9, hs10, hw10, hs11, hw11, hs12, hw12, hs13, hw13, hs14, hw14, hs15, hw15, hs16, hw16, hs17, hw17, hs18, hw18, hs19, hw19, hs20, hw20, hs21, hw21, hs22, hw22, hs23, hw23, hs25, hw25, hs26, hw26, hs27, hw27, hs28, hw28, hs9b, hw9b, hs10b, hw10b, kd0, kd20, kd21, kd22, kd23, kd24, kd25, kd26, kd27, kd28, kd29, kd30, kd31, kd32, kd33, kd34, kd35, kd36, kd37, kd38, kd39, kd40, kd41, kd42, kd54, kd55, kd56, kd57, kd58, kd59, kd67, kd75, kd82, kd89, kd102, kd115, kd276, kd437, kd444, kd451, kd452, kd453, kd534, kd535, kd536, kd553, kd557, kd558, kd559, kd560, kd561, ↓xgI_u, ↓xpI_u, ↓xaI_u, ↓xsI_u, ↓xrk_u, ↓xrk0_u, ↓xob_v, ↓xmb_v, ↓xth_v, ↓xth_x, ↓jn_u, ↓xlen_u, ↓xaL_u, ↓xsL_u, ↓xbl_0, ↓xbl_1, eq_self, inb_n, inb_d, Sh_PI, Sh_PL, dk_PI, dk_PL, dr_PI, dr_PL, ↓reduceIte, Int32.reduceLE, Int32.reduceLT, Int32.reduceToNatClampNeg, Nat.reduceLT, Nat.reduceLeDiff, Nat.reduceEqDiff, Nat.reduceAdd, Nat.reduceMul, g, e79, if_false, hr, kr536 g r hr, hk, i_nat (show k < 2147483648 by omega), ex, ep, i_succ]
    exact hnx _ e2
theorem t_pA53 {E : Option ρ → Prop} {K : dwSt → Option ρ} (hs : Sh b M0) (hi : i < 3) (h : puT b M0 i 80 M1) (hE : ∀ M2, puT b M0 i 1344 M2 → E (K M2)) : E (L_X10_putsAll_53 (b + 54) (b + 554 + i) 0 K 1000000 0 M1) := by
  refine lpx (E := E) (fun f r (M2 : dwSt) => L_X10_putsAll_53 (b + 54) (b + 554 + i) 0 K f (Int32.ofNat r) M2) 16 (fun r M2 => puT b M0 i (80 + 79 * r) M2) ?_ ?_ 1000000 0 M1 (by omega) (by omega) h
  · intro f M2 h2
    have e16 : ((16 : Int32) ≤ Int32.ofNat 16) = True := i_geT 16
    simp -implicitDefEqProofs only [L_X10_putsAll_53, e16, if_true]
    exact hE M2 h2
  · intro f r M2 hr h2 hnx
    have e16 : ((16 : Int32) ≤ Int32.ofNat r) = False := i_geF (n := 16) hr (by omega)
    simp -implicitDefEqProofs only [L_X10_putsAll_53, e16, if_false, jn_u, i_succ]
    exact t_pA62 hs hi hr h2 fun M3 h3 => hnx M3 h3
theorem t_pA21 {E : Option ρ → Prop} {K : dwSt → Option ρ} (hs : Sh b M0) (hi : i < 3) (h : puT b M0 i 1 M1) (hE : ∀ M2, puT b M0 i 80 M2 → E (K M2)) : E (L_X10_putsAll_21 (b + 54) (b + 554 + i) 0 K 1000000 0 M1) := by
  refine lpx (E := E) (fun f k (M2 : dwSt) => L_X10_putsAll_21 (b + 54) (b + 554 + i) 0 K f (Int32.ofNat k) M2) 79 (fun k M2 => puT b M0 i (1 + k) M2) ?_ ?_ 1000000 0 M1 (by omega) (by omega) h
  · intro f M2 h2
    have e79 : ((79 : Int32) ≤ Int32.ofNat 79) = True := i_geT 79
    simp -implicitDefEqProofs only [L_X10_putsAll_21, e79, if_true]
    exact hE M2 h2
  · intro f k M2 hk h2 hnx
    have g := hs.fr h2.1 nz_p
    have e79 : ((79 : Int32) ≤ Int32.ofNat k) = False := i_geF (n := 79) hk (by omega)
    have ex := puT_e hs h2 (a := b + 534) (k := k) (by omega) (by omega)
    have ep := t_puts0 (x := dwI M0 (b + 534) k) g h2.2.1 hi (by omega)
    have e2 := puT_s (x := dwI M0 (b + 534) k) (a := b + 534) (k := k) h2 (flV_n hk).symm rfl (by omega) (by omega)
    simp -implicitDefEqProofs only [L_X10_putsAll_21, ↓gp0_2, ↓gp0_3, ↓gp0_4, ↓gp0_5, ↓gp0_6, ↓gp0_7, ↓gp0_8, ↓gp0_9, ↓gp0_10, ↓gp0_18, ↓gp0_19, ↓gp0_20, ↓gp0_22, ↓gp23_43, ↓gp23_32, ↓gp23_33, ↓gp23_34, ↓gp23_35, ↓gp23_36, ↓gp29_43, ↓gp29_32, ↓gp29_33, ↓gp29_34, ↓gp29_35, ↓gp29_36, ↓gp54_53, ↓gp54_54, ↓gp54_55, ↓gp54_56, ↓gp54_57, ↓gp54_58, ↓gp54_59, ↓gp54_60, ↓gp54_61, ↓gp54_62, ↓gp54_65, ↓gp54_66, ↓gp54_67, ↓gp54_68, ↓gp54_69, ↓gp54_70, ↓gp54_71, ↓gp54_73, ↓gp54_74, ↓gp54_75, ↓gp54_76, ↓gp54_84, ↓gp54_85, ↓gp54_87, ↓gp54_88, ↓xr59, kr59, ↓xr67, kr67, ↓xr75, kr75, ↓xr82, kr82, ↓xr89, kr89, ↓xr102, kr102, ↓xr115, kr115, ↓xr276, kr276, ↓xr437, kr437, ↓xr444, kr444, ↓xr453, kr453, ↓xr536, kr536, ↓xr553, kr553, hs0, hw0, hs1, hw1, hs2, hw2, hs3, hw3, hs4, hw4, hs5, hw5, hs6, hw6, hs7, hw7, hs8, hw8, hs9, hw9, hs10, hw10, hs11, hw11, hs12, hw12, hs13, hw13, hs14, hw14, hs15, hw15, hs16, hw16, hs17, hw17, hs18, hw18, hs19, hw19, hs20, hw20, hs21, hw21, hs22, hw22, hs23, hw23, hs25, hw25, hs26, hw26, hs27, hw27, hs28, hw28, hs9b, hw9b, hs10b, hw10b, kd0, kd20, kd21, kd22, kd23, kd24, kd25, kd26, kd27, kd28, kd29, kd30, kd31, kd32, kd33, kd34, kd35, kd36, kd37, kd38, kd39, kd40, kd41, kd42, kd54, kd55, kd56, kd57, kd58, kd59, kd67, kd75, kd82, kd89, kd102, kd115, kd276, kd437, kd444, kd451, kd452, kd453, kd534, kd535, kd536, kd553, kd557, kd558, kd559, kd560, kd561, ↓xgI_u, ↓xpI_u, ↓xaI_u, ↓xsI_u, ↓xrk_u, ↓xrk0_u, ↓xob_v, ↓xmb_v, ↓xth_v, ↓xth_x, ↓jn_u, ↓xlen_u, ↓xaL_u, ↓xsL_u, ↓xbl_0, ↓xbl_1, eq_self, inb_n, inb_d, Sh_PI, Sh_PL, dk_PI, dk_PL, dr_PI, dr_PL, ↓reduceIte, Int32.reduceLE, Int32.reduceLT, Int32.reduceToNatClampNeg, Nat.reduceLT, Nat.reduceLeDiff, Nat.reduceEqDiff, Nat.reduceAdd, Nat.reduceMul, g, e79, if_false, hk, i_nat (show k < 2147483648 by omega), ex, ep, i_succ]
    exact hnx _ e2
theorem t_putsAll0 (hs : Sh b M0) (hi : i < 3) : ∃ M2, m_X10_putsAll M0 (b + 54) (b + 554 + i) 0 = some ((), M2) ∧ puT b M0 i 1344 M2 := by
  have h0 : puT b M0 i 0 (dwPI M0 (b + 54) 81 0) := ⟨(fr.refl M0).pI _ (Or.inl (Or.inl ⟨rfl, rfl⟩)), di_eq, fun k hk => by omega⟩
  have g := hs.fr h0.1 nz_p
  have ep := t_puts0 (x := dwI M0 (b + 54) 78) g h0.2.1 hi (by omega)
  have e2 := puT_s (x := dwI M0 (b + 54) 78) (a := b + 54) (k := 78) h0 rfl rfl (by omega) (by omega)
  simp -implicitDefEqProofs only [m_X10_putsAll, ↓gp0_2, ↓gp0_3, ↓gp0_4, ↓gp0_5, ↓gp0_6, ↓gp0_7, ↓gp0_8, ↓gp0_9, ↓gp0_10, ↓gp0_18, ↓gp0_19, ↓gp0_20, ↓gp0_22, ↓gp23_43, ↓gp23_32, ↓gp23_33, ↓gp23_34, ↓gp23_35, ↓gp23_36, ↓gp29_43, ↓gp29_32, ↓gp29_33, ↓gp29_34, ↓gp29_35, ↓gp29_36, ↓gp54_53, ↓gp54_54, ↓gp54_55, ↓gp54_56, ↓gp54_57, ↓gp54_58, ↓gp54_59, ↓gp54_60, ↓gp54_61, ↓gp54_62, ↓gp54_65, ↓gp54_66, ↓gp54_67, ↓gp54_68, ↓gp54_69, ↓gp54_70, ↓gp54_71, ↓gp54_73, ↓gp54_74, ↓gp54_75, ↓gp54_76, ↓gp54_84, ↓gp54_85, ↓gp54_87, ↓gp54_88, ↓xr59, kr59, ↓xr67, kr67, ↓xr75, kr75, ↓xr82, kr82, ↓xr89, kr89, ↓xr102, kr102, ↓xr115, kr115, ↓xr276, kr276, ↓xr437, kr437, ↓xr444, kr444, ↓xr453, kr453, ↓xr536, kr536, ↓xr553, kr553, hs0, hw0, hs1, hw1, hs2, hw2, hs3, hw3, hs4, hw4, hs5, hw5, hs6, hw6, hs7, hw7, hs8, hw8, hs9, hw9, hs10, hw10, hs11, hw11, hs12, hw12, hs13, hw13, hs14, hw14, hs15, hw15, hs16, hw16, hs17, hw17, hs18, hw18, hs19, hw19, hs20, hw20, hs21, hw21, hs22, hw22, hs23, hw23, hs25, hw25, hs26, hw26, hs27, hw27, hs28, hw28, hs9b, hw9b, hs10b, hw10b, kd0, kd20, kd21, kd22, kd23, kd24, kd25, kd26, kd27, kd28, kd29, kd30, kd31, kd32, kd33, kd34, kd35, kd36, kd37, kd38, kd39, kd40, kd41, kd42, kd54, kd55, kd56, kd57, kd58, kd59, kd67, kd75, kd82, kd89, kd102, kd115, kd276, kd437, kd444, kd451, kd452, kd453, kd534, kd535, kd536, kd553, kd557, kd558, kd559, kd560, kd561, ↓xgI_u, ↓xpI_u, ↓xaI_u, ↓xsI_u, ↓xrk_u, ↓xrk0_u, ↓xob_v, ↓xmb_v, ↓xth_v, ↓xth_x, ↓jn_u, ↓xlen_u, ↓xaL_u, ↓xsL_u, ↓xbl_0, ↓xbl_1, eq_self, inb_n, inb_d, Sh_PI, Sh_PL, dk_PI, dk_PL, dr_PI, dr_PL, ↓reduceIte, Int32.reduceLE, Int32.reduceLT, Int32.reduceToNatClampNeg, Nat.reduceLT, Nat.reduceLeDiff, Nat.reduceEqDiff, Nat.reduceAdd, Nat.reduceMul, hs, g, di_PI, show ¬ (78 = 81) by omega, and_false, if_false, ep]
  exact t_pA21 (E := fun z => ∃ M2, z = some ((), M2) ∧ puT b M0 i 1344 M2) hs hi e2 fun M2 h2 => t_pA53 (E := fun z => ∃ M2, z = some ((), M2) ∧ puT b M0 i 1344 M2) hs hi h2 fun M3 h3 => ⟨M3, rfl, h3⟩
end CALL
