/-! some, the twin's half -/
def sEx (b : Nat) : Nat → Nat → Prop := fun a _ => a = b + 560
theorem cl_0 : ∀ q, q < 17 → ∀ i, i < 14 → clN 0 q i = if i = 0 then 1 else 0 := by decide +kernel
theorem x_z0 {t : Nat} (h : t < 2147483648) : (Int32.ofNat t = 0) = (t = 0) := propext (i_inj (b := 0) h (by omega))
theorem x_le0 {t : Nat} (h : t < 2147483648) : (Int32.ofNat t ≤ 0) = (t = 0) := propext (by
  rw [← i_zero, i_le h (by omega)]; omega)
theorem x_lt0 {t : Nat} (h : t < 2147483648) : (Int32.ofNat t < 0) = False := eq_false (by
  rw [← i_zero, i_lt h (by omega)]; omega)
theorem x_neg1 : (Int32.ofNat 0 - 1 < 0) = True := eq_true (by decide)
def exC (b : Nat) (M : dwSt) (n q : Nat) (M1 : dwSt) : Prop := fr (sEx b) nz 0 0 M M1 ∧ ∀ i, i < 14 → dwL M1 (b + 560) i = Int64.ofNat (clN n q i)
section PURE
variable {ρ : Type} {b : Nat} {M : dwSt}
theorem t_sm64 {E : Option ρ → Prop} {K : dwSt → Option ρ} {x1 x2 x3 x4 : Int32} {q : Nat} (hs : Sh b M) (hq : q < 17) (hE : ∀ M1, exC b M 0 q M1 → E (K M1)) : E (L_X10_some_64 (b + 54) x1 x2 x3 x4 K 1000000 0 M) := by
  refine lpx (E := E) (fun f t M1 => L_X10_some_64 (b + 54) x1 x2 x3 x4 K f (Int32.ofNat t) M1) 14 (fun t M1 => fr (sEx b) nz 0 0 M M1 ∧ ∀ i, i < t → dwL M1 (b + 560) i = Int64.ofNat (clN 0 q i)) ?_ ?_ 1000000 0 M (by omega) (by omega) ⟨fr.refl M, fun i hi => by omega⟩
  · intro f M1 ⟨hf, hv⟩
    have hs1 := hs.fr hf nz_p
    have e14 : ((14 : Int32) ≤ Int32.ofNat 14) = True := i_geT 14
    simp -implicitDefEqProofs only [L_X10_some_64, e14, if_true]
    exact hE M1 ⟨hf, hv⟩
  · intro f t M1 ht ⟨hf, hv⟩ hn
    have hs1 := hs.fr hf nz_p
    have e14 : ((14 : Int32) ≤ Int32.ofNat t) = False := i_geF (n := 14) ht (by omega)
    have wr : ∀ v : Int64, v = Int64.ofNat (clN 0 q t) → E (L_X10_some_64 (b + 54) x1 x2 x3 x4 K f (Int32.ofNat (t + 1)) (dwPL M1 (b + 560) t v)) := by
      intro v hv2
      refine hn _ ⟨hf.pL v (Or.inl rfl), fun i hi => ?_⟩
      rw [dl_PL]
      by_cases h : i = t
      · rw [if_pos ⟨rfl, h⟩, hv2, h]
      · rw [if_neg (fun q => h q.2)]
        exact hv i (by omega)
    have c0 := cl_0 q hq t ht
    simp -implicitDefEqProofs only [L_X10_some_64, ↓gp0_2, ↓gp0_3, ↓gp0_4, ↓gp0_5, ↓gp0_6, ↓gp0_7, ↓gp0_8, ↓gp0_9, ↓gp0_10, ↓gp0_18, ↓gp0_19, ↓gp0_20, ↓gp0_22, ↓gp23_43, ↓gp23_32, ↓gp23_33, ↓gp23_34, ↓gp23_35, ↓gp23_36, ↓gp29_43, ↓gp29_32, ↓gp29_33, ↓gp29_34, ↓gp29_35, ↓gp29_36, ↓gp54_53, ↓gp54_54, ↓gp54_55, ↓gp54_56, ↓gp54_57, ↓gp54_58, ↓gp54_59, ↓gp54_60, ↓gp54_61, ↓gp54_62, ↓gp54_65, ↓gp54_66, ↓gp54_67, ↓gp54_68, ↓gp54_69, ↓gp54_70, ↓gp54_71, ↓gp54_73, ↓gp54_74, ↓gp54_75, ↓gp54_76, ↓gp54_84, ↓gp54_85, ↓gp54_87, ↓gp54_88, ↓xr59, kr59, ↓xr67, kr67, ↓xr75, kr75, ↓xr82, kr82, ↓xr89, kr89, ↓xr102, kr102, ↓xr115, kr115, ↓xr276, kr276, ↓xr437, kr437, ↓xr444, kr444, ↓xr453, kr453, ↓xr536, kr536, ↓xr553, kr553, hs0, hw0, hs1, hw1, hs2, hw2, hs3, hw3, hs4, hw4, hs5, hw5, hs6, hw6, hs7, hw7, hs8, hw8, hs9, hw9, hs10, hw10, hs11, hw11, hs12, hw12, hs13, hw13, hs14, hw14, hs15, hw15, hs16, hw16, hs17, hw17, hs18, hw18, hs19, hw19, hs20, hw20, hs21, hw21, hs22, hw22, hs23, hw23, hs25, hw25, hs26, hw26, hs27, hw27, hs28, hw28, hs9b, hw9b, hs10b, hw10b, kd0, kd20, kd21, kd22, kd23, kd24, kd25, kd26, kd27, kd28, kd29, kd30, kd31, kd32, kd33, kd34, kd35, kd36, kd37, kd38, kd39, kd40, kd41, kd42, kd54, kd55, kd56, kd57, kd58, kd59, kd67, kd75, kd82, kd89, kd102, kd115, kd276, kd437, kd444, kd451, kd452, kd453, kd534, kd535, kd536, kd553, kd557, kd558, kd559, kd560, kd561, ↓xgI_u, ↓xpI_u, ↓xaI_u, ↓xsI_u, ↓xrk_u, ↓xrk0_u, ↓xob_v, ↓xmb_v, ↓xth_v, ↓xth_x, ↓jn_u, ↓xlen_u, ↓xaL_u, ↓xsL_u, ↓xbl_0, ↓xbl_1, eq_self, inb_n, inb_d, Sh_PI, Sh_PL, dk_PI, dk_PL, dr_PI, dr_PL, ↓reduceIte, Int32.reduceLE, Int32.reduceLT, Int32.reduceToNatClampNeg, Nat.reduceLT, Nat.reduceLeDiff, Nat.reduceEqDiff, Nat.reduceAdd, Nat.reduceMul, hs1, e14, if_false, kd560 hs1, x_z0 (show t < 2147483648 by omega), i_succ, i_nat (show t < 2147483648 by omega), ht]
    by_cases h : t = 0
    · rw [if_pos h]
      rw [if_pos h] at c0
      exact wr 1 (by rw [c0]; rfl)
    · rw [if_neg h]
      rw [if_neg h] at c0
      exact wr 0 (by rw [c0]; rfl)
theorem t_sm107 {E : Option ρ → Prop} {K : dwSt → Option ρ} {x1 x2 x4 x5 : Int32} {n q : Nat} {M0 : dwSt} (hs : Sh b M) (hn : n < 12) (hq : q < 17) (h0 : exC b M n q M0) (hE : ∀ M1, exC b M (n + 1) q M1 → E (K M1)) : E (L_X10_some_107 (b + 54) x1 x2 (Int32.ofNat q) x4 x5 K 1000000 13 M0) := by
  have e0 : (13 : Int32) = Int32.ofNat (14 - 0) - 1 := by decide
  rw [e0]
  refine lpx (E := E) (fun f t M1 => L_X10_some_107 (b + 54) x1 x2 (Int32.ofNat q) x4 x5 K f (Int32.ofNat (14 - t) - 1) M1) 14 (fun t M1 => fr (sEx b) nz 0 0 M M1 ∧ ∀ i, i < 14 → dwL M1 (b + 560) i = Int64.ofNat (clN (if i < 14 - t then n else n + 1) q i)) ?_ ?_ 1000000 0 M0 (by omega) (by omega) ⟨h0.1, fun i hi => by rw [if_pos (by omega)]; exact h0.2 i hi⟩
  · intro f M1 ⟨hf, hv⟩
    have e14 : (Int32.ofNat (14 - 14) - 1 < 0) = True := x_neg1
    simp -implicitDefEqProofs only [L_X10_some_107, e14, if_true]
    exact hE M1 ⟨hf, fun i hi => by rw [hv i hi, if_neg (by omega)]⟩
  · intro f t M1 ht ⟨hf, hv⟩ hnx
    have hs1 := hs.fr hf nz_p
    obtain ⟨d1, d2⟩ := x_dn ht
    obtain ⟨k, hk⟩ : ∃ k, k = 14 - t - 1 := ⟨_, rfl⟩
    have hkt : 14 - t = k + 1 := by omega
    rw [d1, ← hk]
    rw [← hk] at d2
    have e16 : (16 : Int32) - Int32.ofNat q = Int32.ofNat (16 - q) := i_sub (a := 16) (by omega)
    have c1 := cl_s n hn q hq k (by omega)
    have v1 := hv k (by omega)
    rw [if_pos (by omega)] at v1
    have wr : ∀ v : Int64, v = Int64.ofNat (clN (n + 1) q k) → E (L_X10_some_107 (b + 54) x1 x2 (Int32.ofNat q) x4 x5 K f (Int32.ofNat (14 - (t + 1)) - 1) (dwPL M1 (b + 560) k v)) := by
      intro v hv2
      refine hnx _ ⟨hf.pL v (Or.inl rfl), fun i hi => ?_⟩
      rw [dl_PL]
      by_cases h : i = k
      · rw [if_pos ⟨rfl, h⟩, hv2, h, if_neg (by omega)]
      · rw [if_neg (fun q => h q.2), hv i hi]
        by_cases h2 : i < 14 - t
        · rw [if_pos h2, if_pos (by omega)]
        · rw [if_neg h2, if_neg (by omega)]
    by_cases h : k = 0
    · rw [if_pos h] at c1
      simp -implicitDefEqProofs only [L_X10_some_107, ↓gp0_2, ↓gp0_3, ↓gp0_4, ↓gp0_5, ↓gp0_6, ↓gp0_7, ↓gp0_8, ↓gp0_9, ↓gp0_10, ↓gp0_18, ↓gp0_19, ↓gp0_20, ↓gp0_22, ↓gp23_43, ↓gp23_32, ↓gp23_33, ↓gp23_34, ↓gp23_35, ↓gp23_36, ↓gp29_43, ↓gp29_32, ↓gp29_33, ↓gp29_34, ↓gp29_35, ↓gp29_36, ↓gp54_53, ↓gp54_54, ↓gp54_55, ↓gp54_56, ↓gp54_57, ↓gp54_58, ↓gp54_59, ↓gp54_60, ↓gp54_61, ↓gp54_62, ↓gp54_65, ↓gp54_66, ↓gp54_67, ↓gp54_68, ↓gp54_69, ↓gp54_70, ↓gp54_71, ↓gp54_73, ↓gp54_74, ↓gp54_75, ↓gp54_76, ↓gp54_84, ↓gp54_85, ↓gp54_87, ↓gp54_88, ↓xr59, kr59, ↓xr67, kr67, ↓xr75, kr75, ↓xr82, kr82, ↓xr89, kr89, ↓xr102, kr102, ↓xr115, kr115, ↓xr276, kr276, ↓xr437, kr437, ↓xr444, kr444, ↓xr453, kr453, ↓xr536, kr536, ↓xr553, kr553, hs0, hw0, hs1, hw1, hs2, hw2, hs3, hw3, hs4, hw4, hs5, hw5, hs6, hw6, hs7, hw7, hs8, hw8, hs9, hw9, hs10, hw10, hs11, hw11, hs12, hw12, hs13, hw13, hs14, hw14, hs15, hw15, hs16, hw16, hs17, hw17, hs18, hw18, hs19, hw19, hs20, hw20, hs21, hw21, hs22, hw22, hs23, hw23, hs25, hw25, hs26, hw26, hs27, hw27, hs28, hw28, hs9b, hw9b, hs10b, hw10b, kd0, kd20, kd21, kd22, kd23, kd24, kd25, kd26, kd27, kd28, kd29, kd30, kd31, kd32, kd33, kd34, kd35, kd36, kd37, kd38, kd39, kd40, kd41, kd42, kd54, kd55, kd56, kd57, kd58, kd59, kd67, kd75, kd82, kd89, kd102, kd115, kd276, kd437, kd444, kd451, kd452, kd453, kd534, kd535, kd536, kd553, kd557, kd558, kd559, kd560, kd561, ↓xgI_u, ↓xpI_u, ↓xaI_u, ↓xsI_u, ↓xrk_u, ↓xrk0_u, ↓xob_v, ↓xmb_v, ↓xth_v, ↓xth_x, ↓jn_u, ↓xlen_u, ↓xaL_u, ↓xsL_u, ↓xbl_0, ↓xbl_1, eq_self, inb_n, inb_d, Sh_PI, Sh_PL, dk_PI, dk_PL, dr_PI, dr_PL, ↓reduceIte, Int32.reduceLE, Int32.reduceLT, Int32.reduceToNatClampNeg, Nat.reduceLT, Nat.reduceLeDiff, Nat.reduceEqDiff, Nat.reduceAdd, Nat.reduceMul, hs1, kd560 hs1, x_lt0 (show k < 2147483648 by omega), if_false, x_le0 (show k < 2147483648 by omega), h, if_true, i_nat (show k < 2147483648 by omega), d2]
      subst h
      simp only [↓gp0_2, ↓gp0_3, ↓gp0_4, ↓gp0_5, ↓gp0_6, ↓gp0_7, ↓gp0_8, ↓gp0_9, ↓gp0_10, ↓gp0_18, ↓gp0_19, ↓gp0_20, ↓gp0_22, ↓gp23_43, ↓gp23_32, ↓gp23_33, ↓gp23_34, ↓gp23_35, ↓gp23_36, ↓gp29_43, ↓gp29_32, ↓gp29_33, ↓gp29_34, ↓gp29_35, ↓gp29_36, ↓gp54_53, ↓gp54_54, ↓gp54_55, ↓gp54_56, ↓gp54_57, ↓gp54_58, ↓gp54_59, ↓gp54_60, ↓gp54_61, ↓gp54_62, ↓gp54_65, ↓gp54_66, ↓gp54_67, ↓gp54_68, ↓gp54_69, ↓gp54_70, ↓gp54_71, ↓gp54_73, ↓gp54_74, ↓gp54_75, ↓gp54_76, ↓gp54_84, ↓gp54_85, ↓gp54_87, ↓gp54_88, ↓xr59, kr59, ↓xr67, kr67, ↓xr75, kr75, ↓xr82, kr82, ↓xr89, kr89, ↓xr102, kr102, ↓xr115, kr115, ↓xr276, kr276, ↓xr437, kr437, ↓xr444, kr444, ↓xr453, kr453, ↓xr536, kr536, ↓xr553, kr553, hs0, hw0, hs1, hw1, hs2, hw2, hs3, hw3, hs4, hw4, hs5, hw5, hs6, hw6, hs7, hw7, hs8, hw8, hs9, hw9, hs10, hw10, hs11, hw11, hs12, hw12, hs13, hw13, hs14, hw14, hs15, hw15, hs16, hw16, hs17, hw17, hs18, hw18, hs19, hw19, hs20, hw20, hs21, hw21, hs22, hw22, hs23, hw23, hs25, hw25, hs26, hw26, hs27, hw27, hs28, hw28, hs9b, hw9b, hs10b, hw10b, kd0, kd20, kd21, kd22, kd23, kd24, kd25, kd26, kd27, kd28, kd29, kd30, kd31, kd32, kd33, kd34, kd35, kd36, kd37, kd38, kd39, kd40, kd41, kd42, kd54, kd55, kd56, kd57, kd58, kd59, kd67, kd75, kd82, kd89, kd102, kd115, kd276, kd437, kd444, kd451, kd452, kd453, kd534, kd535, kd536, kd553, kd557, kd558, kd559, kd560, kd561, ↓xgI_u, ↓xpI_u, ↓xaI_u, ↓xsI_u, ↓xrk_u, ↓xrk0_u, ↓xob_v, ↓xmb_v, ↓xth_v, ↓xth_x, ↓jn_u, ↓xlen_u, ↓xaL_u, ↓xsL_u, ↓xbl_0, ↓xbl_1, eq_self, inb_n, inb_d, Sh_PI, Sh_PL, dk_PI, dk_PL, dr_PI, dr_PL, ↓reduceIte, Int32.reduceLE, Int32.reduceLT, Int32.reduceToNatClampNeg, Nat.reduceLT, Nat.reduceLeDiff, Nat.reduceEqDiff, Nat.reduceAdd, Nat.reduceMul, hs1, kd560 hs1, i_nat (show 0 < 2147483648 by omega), d2, v1, e16, j_of (show 16 - q < 2147483648 by omega), j_mul]
      refine wr _ ?_
      rw [← c1]
      exact Int64.add_zero _
    · rw [if_neg h] at c1
      have v2 := hv (k - 1) (by omega)
      rw [if_pos (by omega)] at v2
      have dk : Int32.ofNat k - 1 = Int32.ofNat (k - 1) := i_sub (c := 1) (by omega)
      simp -implicitDefEqProofs only [L_X10_some_107, ↓gp0_2, ↓gp0_3, ↓gp0_4, ↓gp0_5, ↓gp0_6, ↓gp0_7, ↓gp0_8, ↓gp0_9, ↓gp0_10, ↓gp0_18, ↓gp0_19, ↓gp0_20, ↓gp0_22, ↓gp23_43, ↓gp23_32, ↓gp23_33, ↓gp23_34, ↓gp23_35, ↓gp23_36, ↓gp29_43, ↓gp29_32, ↓gp29_33, ↓gp29_34, ↓gp29_35, ↓gp29_36, ↓gp54_53, ↓gp54_54, ↓gp54_55, ↓gp54_56, ↓gp54_57, ↓gp54_58, ↓gp54_59, ↓gp54_60, ↓gp54_61, ↓gp54_62, ↓gp54_65, ↓gp54_66, ↓gp54_67, ↓gp54_68, ↓gp54_69, ↓gp54_70, ↓gp54_71, ↓gp54_73, ↓gp54_74, ↓gp54_75, ↓gp54_76, ↓gp54_84, ↓gp54_85, ↓gp54_87, ↓gp54_88, ↓xr59, kr59, ↓xr67, kr67, ↓xr75, kr75, ↓xr82, kr82, ↓xr89, kr89, ↓xr102, kr102, ↓xr115, kr115, ↓xr276, kr276, ↓xr437, kr437, ↓xr444, kr444, ↓xr453, kr453, ↓xr536, kr536, ↓xr553, kr553, hs0, hw0, hs1, hw1, hs2, hw2, hs3, hw3, hs4, hw4, hs5, hw5, hs6, hw6, hs7, hw7, hs8, hw8, hs9, hw9, hs10, hw10, hs11, hw11, hs12, hw12, hs13, hw13, hs14, hw14, hs15, hw15, hs16, hw16, hs17, hw17, hs18, hw18, hs19, hw19, hs20, hw20, hs21, hw21, hs22, hw22, hs23, hw23, hs25, hw25, hs26, hw26, hs27, hw27, hs28, hw28, hs9b, hw9b, hs10b, hw10b, kd0, kd20, kd21, kd22, kd23, kd24, kd25, kd26, kd27, kd28, kd29, kd30, kd31, kd32, kd33, kd34, kd35, kd36, kd37, kd38, kd39, kd40, kd41, kd42, kd54, kd55, kd56, kd57, kd58, kd59, kd67, kd75, kd82, kd89, kd102, kd115, kd276, kd437, kd444, kd451, kd452, kd453, kd534, kd535, kd536, kd553, kd557, kd558, kd559, kd560, kd561, ↓xgI_u, ↓xpI_u, ↓xaI_u, ↓xsI_u, ↓xrk_u, ↓xrk0_u, ↓xob_v, ↓xmb_v, ↓xth_v, ↓xth_x, ↓jn_u, ↓xlen_u, ↓xaL_u, ↓xsL_u, ↓xbl_0, ↓xbl_1, eq_self, inb_n, inb_d, Sh_PI, Sh_PL, dk_PI, dk_PL, dr_PI, dr_PL, ↓reduceIte, Int32.reduceLE, Int32.reduceLT, Int32.reduceToNatClampNeg, Nat.reduceLT, Nat.reduceLeDiff, Nat.reduceEqDiff, Nat.reduceAdd, Nat.reduceMul, hs1, kd560 hs1, x_lt0 (show k < 2147483648 by omega), if_false, x_le0 (show k < 2147483648 by omega), h, dk, show k < 14 by omega, show k - 1 < 14 by omega, i_nat (show k < 2147483648 by omega), i_nat (show k - 1 < 2147483648 by omega), d2, v1, v2, e16, j_of (show 16 - q < 2147483648 by omega), j_of (show q < 2147483648 by omega), j_mul, j_add]
      exact wr _ (by rw [← c1])
theorem t_sm97 {E : Option ρ → Prop} {K : dwSt → Option ρ} {x2 x4 : Int32} {n q : Nat} {M0 : dwSt} (hs : Sh b M) (hn : n < 13) (hq : q < 17) (h0 : exC b M 0 q M0) (hE : ∀ M1, exC b M n q M1 → E (K M1)) : E (L_X10_some_97 (b + 54) (Int32.ofNat n) x2 (Int32.ofNat q) x4 K 1000000 0 M0) := by
  refine lpx (E := E) (fun f t M1 => L_X10_some_97 (b + 54) (Int32.ofNat n) x2 (Int32.ofNat q) x4 K f (Int32.ofNat t) M1) n (fun t M1 => exC b M t q M1) ?_ ?_ 1000000 0 M0 (by omega) (by omega) h0
  · intro f M1 h1
    simp -implicitDefEqProofs only [L_X10_some_97, i_geT, if_true]
    exact hE M1 h1
  · intro f t M1 ht h1 hnx
    simp -implicitDefEqProofs only [L_X10_some_97, i_geF ht (by omega), if_false, jn_u, i_succ]
    exact t_sm107 hs (show t < 12 by omega) hq h1 fun M2 h2 => hnx M2 h2
theorem t_sm179 {K : Int64 → Option ρ} {x4 : Int32} {x7 : Int64} {n q k : Nat} (hs : Sh b M) (hn : n < 13) (hk : k < 14) (h0 : ∀ i, i < 14 → dwL M (b + 560) i = Int64.ofNat (clN n q i)) : L_X10_some_179 M (b + 54) x4 x7 K 1000000 0 (Int32.ofNat k) = K (Int64.ofNat (upN n q k (n + 1 - k))) := by
  have hup : upT n q k (14 - k) = upN n q k (n + 1 - k) := by rw [up_eq, Nat.min_eq_right (by omega)]
  rw [← hup]
  refine lpx (E := fun x => x = K (Int64.ofNat (upT n q k (14 - k)))) (fun f t (s : Int64) => L_X10_some_179 M (b + 54) x4 x7 K f s (Int32.ofNat (k + t))) (14 - k) (fun t s => s = Int64.ofNat (upT n q k t)) ?_ ?_ 1000000 0 0 (by omega) (by omega) rfl
  · intro f s e
    subst e
    have hlt : ((14 : Int32) ≤ Int32.ofNat (k + (14 - k))) = True := by rw [show k + (14 - k) = 14 by omega]; exact i_geT 14
    simp -implicitDefEqProofs only [L_X10_some_179, hlt, if_true]
  · intro f t s ht e hnx
    subst e
    have hlt : ((14 : Int32) ≤ Int32.ofNat (k + t)) = False := i_geF (n := 14) (by omega) (by omega)
    simp -implicitDefEqProofs only [L_X10_some_179, ↓gp0_2, ↓gp0_3, ↓gp0_4, ↓gp0_5, ↓gp0_6, ↓gp0_7, ↓gp0_8, ↓gp0_9, ↓gp0_10, ↓gp0_18, ↓gp0_19, ↓gp0_20, ↓gp0_22, ↓gp23_43, ↓gp23_32, ↓gp23_33, ↓gp23_34, ↓gp23_35, ↓gp23_36, ↓gp29_43, ↓gp29_32, ↓gp29_33, ↓gp29_34, ↓gp29_35, ↓gp29_36, ↓gp54_53, ↓gp54_54, ↓gp54_55, ↓gp54_56, ↓gp54_57, ↓gp54_58, ↓gp54_59, ↓gp54_60, ↓gp54_61, ↓gp54_62, ↓gp54_65, ↓gp54_66, ↓gp54_67, ↓gp54_68, ↓gp54_69, ↓gp54_70, ↓gp54_71, ↓gp54_73, ↓gp54_74, ↓gp54_75, ↓gp54_76, ↓gp54_84, ↓gp54_85, ↓gp54_87, ↓gp54_88, ↓xr59, kr59, ↓xr67, kr67, ↓xr75, kr75, ↓xr82, kr82, ↓xr89, kr89, ↓xr102, kr102, ↓xr115, kr115, ↓xr276, kr276, ↓xr437, kr437, ↓xr444, kr444, ↓xr453, kr453, ↓xr536, kr536, ↓xr553, kr553, hs0, hw0, hs1, hw1, hs2, hw2, hs3, hw3, hs4, hw4, hs5, hw5, hs6, hw6, hs7, hw7, hs8, hw8, hs9, hw9, hs10, hw10, hs11, hw11, hs12, hw12, hs13, hw13, hs14, hw14, hs15, hw15, hs16, hw16, hs17, hw17, hs18, hw18, hs19, hw19, hs20, hw20, hs21, hw21, hs22, hw22, hs23, hw23, hs25, hw25, hs26, hw26, hs27, hw27, hs28, hw28, hs9b, hw9b, hs10b, hw10b, kd0, kd20, kd21, kd22, kd23, kd24, kd25, kd26, kd27, kd28, kd29, kd30, kd31, kd32, kd33, kd34, kd35, kd36, kd37, kd38, kd39, kd40, kd41, kd42, kd54, kd55, kd56, kd57, kd58, kd59, kd67, kd75, kd82, kd89, kd102, kd115, kd276, kd437, kd444, kd451, kd452, kd453, kd534, kd535, kd536, kd553, kd557, kd558, kd559, kd560, kd561, ↓xgI_u, ↓xpI_u, ↓xaI_u, ↓xsI_u, ↓xrk_u, ↓xrk0_u, ↓xob_v, ↓xmb_v, ↓xth_v, ↓xth_x, ↓jn_u, ↓xlen_u, ↓xaL_u, ↓xsL_u, ↓xbl_0, ↓xbl_1, eq_self, inb_n, inb_d, Sh_PI, Sh_PL, dk_PI, dk_PL, dr_PI, dr_PL, ↓reduceIte, Int32.reduceLE, Int32.reduceLT, Int32.reduceToNatClampNeg, Nat.reduceLT, Nat.reduceLeDiff, Nat.reduceEqDiff, Nat.reduceAdd, Nat.reduceMul, hs, kd560 hs, hlt, if_false, i_nat (show k + t < 2147483648 by omega), show k + t < 14 by omega, h0 (k + t) (by omega), j_add, i_succ]
    exact hnx _ rfl
end PURE
section CALL
variable {b : Nat} {w : Nat → Nat} {M : dwSt} {A : dvA}
theorem T_some {x0 x1 x2 y : Int32} (hT : TInv b M A) (g0 : inV x0 0 12 = 1) (g1 : inV x1 0 13 = 1) (g2 : inV x2 0 16 = 1) (g3 : inV y 0 1 = 1) : ∃ M1, m_X10_some M (b + 54) x0 x1 x2 y = some (smV x0.toNatClampNeg x1.toNatClampNeg x2.toNatClampNeg y, M1) ∧ fr (tSc b) nz 0 0 (dwPI M (b + 54) 44 0) M1 := by
  obtain ⟨n, hn, rfl⟩ := inV_n (n := 12) (by omega) g0
  obtain ⟨k, hk, rfl⟩ := inV_n (n := 13) (by omega) g1
  obtain ⟨q, hq, rfl⟩ := inV_n (n := 16) (by omega) g2
  rw [i_nat (by omega), i_nat (by omega), i_nat (by omega)]
  obtain ⟨hT0, fz, z0⟩ := tinv_z hT
  have hs0 := hT0.1.1
  have hu := upN_lt (n := n) (q := q) (k := k) (by omega) (by omega) (by omega)
  have hp := p16_lt (n := n) (by omega)
  have hp0 : 0 < 16 ^ n := Nat.pow_pos (by omega)
  have hg : 0 < Nat.gcd (upN n q k (n + 1 - k)) (16 ^ n) := Nat.gcd_pos_of_pos_right _ hp0
  have hgl : Nat.gcd (upN n q k (n + 1 - k)) (16 ^ n) ≤ 16 ^ n := Nat.gcd_le_right _ hp0
  have hz : ¬ Int64.ofNat (Nat.gcd (upN n q k (n + 1 - k)) (16 ^ n)) = 0 := by rw [j_z (by omega)]; omega
  simp -implicitDefEqProofs only [m_X10_some, ↓gp0_2, ↓gp0_3, ↓gp0_4, ↓gp0_5, ↓gp0_6, ↓gp0_7, ↓gp0_8, ↓gp0_9, ↓gp0_10, ↓gp0_18, ↓gp0_19, ↓gp0_20, ↓gp0_22, ↓gp23_43, ↓gp23_32, ↓gp23_33, ↓gp23_34, ↓gp23_35, ↓gp23_36, ↓gp29_43, ↓gp29_32, ↓gp29_33, ↓gp29_34, ↓gp29_35, ↓gp29_36, ↓gp54_53, ↓gp54_54, ↓gp54_55, ↓gp54_56, ↓gp54_57, ↓gp54_58, ↓gp54_59, ↓gp54_60, ↓gp54_61, ↓gp54_62, ↓gp54_65, ↓gp54_66, ↓gp54_67, ↓gp54_68, ↓gp54_69, ↓gp54_70, ↓gp54_71, ↓gp54_73, ↓gp54_74, ↓gp54_75, ↓gp54_76, ↓gp54_84, ↓gp54_85, ↓gp54_87, ↓gp54_88, ↓xr59, kr59, ↓xr67, kr67, ↓xr75, kr75, ↓xr82, kr82, ↓xr89, kr89, ↓xr102, kr102, ↓xr115, kr115, ↓xr276, kr276, ↓xr437, kr437, ↓xr444, kr444, ↓xr453, kr453, ↓xr536, kr536, ↓xr553, kr553, hs0, hw0, hs1, hw1, hs2, hw2, hs3, hw3, hs4, hw4, hs5, hw5, hs6, hw6, hs7, hw7, hs8, hw8, hs9, hw9, hs10, hw10, hs11, hw11, hs12, hw12, hs13, hw13, hs14, hw14, hs15, hw15, hs16, hw16, hs17, hw17, hs18, hw18, hs19, hw19, hs20, hw20, hs21, hw21, hs22, hw22, hs23, hw23, hs25, hw25, hs26, hw26, hs27, hw27, hs28, hw28, hs9b, hw9b, hs10b, hw10b, kd0, kd20, kd21, kd22, kd23, kd24, kd25, kd26, kd27, kd28, kd29, kd30, kd31, kd32, kd33, kd34, kd35, kd36, kd37, kd38, kd39, kd40, kd41, kd42, kd54, kd55, kd56, kd57, kd58, kd59, kd67, kd75, kd82, kd89, kd102, kd115, kd276, kd437, kd444, kd451, kd452, kd453, kd534, kd535, kd536, kd553, kd557, kd558, kd559, kd560, kd561, ↓xgI_u, ↓xpI_u, ↓xaI_u, ↓xsI_u, ↓xrk_u, ↓xrk0_u, ↓xob_v, ↓xmb_v, ↓xth_v, ↓xth_x, ↓jn_u, ↓xlen_u, ↓xaL_u, ↓xsL_u, ↓xbl_0, ↓xbl_1, eq_self, inb_n, inb_d, Sh_PI, Sh_PL, dk_PI, dk_PL, dr_PI, dr_PL, ↓reduceIte, Int32.reduceLE, Int32.reduceLT, Int32.reduceToNatClampNeg, Nat.reduceLT, Nat.reduceLeDiff, Nat.reduceEqDiff, Nat.reduceAdd, Nat.reduceMul, hT.1.1, t_in, g0, g1, g2, g3, e10, t_bad0 hs0 z0, p16 n (by omega)]
  refine t_sm64 (E := fun z => ∃ M1, z = some (smV n k q y, M1) ∧ fr (tSc b) nz 0 0 (dwPI M (b + 54) 44 0) M1) hs0 (show q < 17 by omega) fun M1 h1 => ?_
  refine t_sm97 (E := fun z => ∃ M1, z = some (smV n k q y, M1) ∧ fr (tSc b) nz 0 0 (dwPI M (b + 54) 44 0) M1) hs0 (by omega) (by omega) h1 fun M2 h2 => ?_
  refine ⟨M2, ?_, h2.1.mono (fun a k q => by unfold sEx at q; unfold tSc; omega) (fun _ _ q => q) (Nat.le_refl _) (Nat.le_refl _)⟩
  rw [t_sm179 (hs0.fr h2.1 nz_p) (by omega) (by omega) h2.2]
  rw [gcd_l (L := fun f x z => L_X10_some_212 M2 y (Int64.ofNat (upN n q k (n + 1 - k))) (Int64.ofNat (16 ^ n)) _ f x z) (fun f x z => by rw [L_X10_some_212]) 53 _ _ 1000000 hu (by omega) (by omega) (by omega), Nat.gcd_comm]
  unfold smV
  by_cases h0 : y = 0
  · rw [if_pos h0, if_pos h0, xldiv_u hz]
  · rw [if_neg h0, if_neg h0, xldiv_u hz]
def agreeL (b : Nat) (M : dwSt) (f : dwSt → dwR9 Int32) (g : dwSt → Option (Int64 × dwSt)) : Prop := ∃ k M1, f M = some (.inl k, M1) ∧ ∃ v M2, g M1 = some (v, M2) ∧ dwI M2 (b + 54) 44 = k ∧ (k = 0 → dwL M2 (b + 561) 0 = v) ∧ Inv b M2 ∧ fr (bW b) (bW b) 9000 113000 M M2
theorem agree_mkL {A' : dvA} {f : dwSt → dwR9 Int32} {g : dwSt → Option (Int64 × dwSt)} {k : Int32} {v : Int64} (hT : TInv b M A)
    (h1 : ∃ M1 w', f M = some (.inl k, M1) ∧ CInv b w' M1 A' ∧ fr (cWo b) (zWo b) 9000 113000 M M1 ∧ (k = 0 → dwL M1 (b + 561) 0 = v))
    (h2 : ∀ M1, TInv b M1 A → ∃ M2 v2, g M1 = some (v2, M2) ∧ TInv b M2 A' ∧ fr (tW b) nz 0 0 M1 M2 ∧ dwI M2 (b + 54) 44 = k ∧ (k = 0 → v2 = v)) : agreeL b M f g := by
  obtain ⟨M1, w', e1, c1, f1, o1⟩ := h1
  obtain ⟨M2, v2, e2, t2, f2, k2, o2⟩ := h2 M1 (tinv_c hT f1)
  have hn := shN c1.1.1
  refine ⟨k, M1, e1, v2, M2, e2, k2, fun q => ?_, ⟨w', A', cinv_t c1 f2, t2⟩, ?_⟩
  · rw [f2.l (by omega) (fun z => by unfold tW at z; omega), o1 q, o2 q]
  · exact (f1.mono (fun a k q => q.1) (fun a k q => q.1.1) (Nat.le_refl _) (Nat.le_refl _)).t0 (f2.mono (fun a k q => by unfold tW at q; show b ≤ a; omega) (fun a k q => False.elim q) (Nat.le_refl _) (Nat.le_refl _))
theorem t_errL {g : dwSt → Option (Int64 × dwSt)} {x : Int32} {v : Int64} {i : Nat} (hT : TInv b M A) (hx : x ≠ 0) (hi : i < 2) (hg : ∀ M2, m_X10_bad (dwPI M (b + 54) 44 0) (b + 54) 1 x (Int32.ofNat i) = some (1, M2) → g M = some (0, M2)) : ∃ M2 v2, g M = some (v2, M2) ∧ TInv b M2 (aBump A i) ∧ fr (tW b) nz 0 0 M M2 ∧ dwI M2 (b + 54) 44 = x ∧ (x = 0 → v2 = v) := by
  obtain ⟨hT0, f0, z0⟩ := tinv_z hT
  obtain ⟨M2, e, t2, k2, f2⟩ := t_bad1 hT0 z0 hx hi
  exact ⟨M2, 0, hg M2 e, t2, f0.t0 f2, k2, fun q => absurd q hx⟩
theorem t_okL {g : dwSt → Option (Int64 × dwSt)} {v : Int64} (hT : TInv b M A) (h : ∃ M2, g M = some (v, M2) ∧ fr (tSc b) nz 0 0 (dwPI M (b + 54) 44 0) M2) : ∃ M2 v2, g M = some (v2, M2) ∧ TInv b M2 A ∧ fr (tW b) nz 0 0 M M2 ∧ dwI M2 (b + 54) 44 = 0 ∧ ((0 : Int32) = 0 → v2 = v) := by
  obtain ⟨M2, e, f2⟩ := h
  obtain ⟨hT0, f0, z0⟩ := tinv_z hT
  have hn := shN hT0.1.1
  exact ⟨M2, v, e, tinv_s hT0 f2, f0.t0 (f2.mono (fun a k q => by unfold tSc at q; unfold tW; omega) (fun _ _ q => q) (Nat.le_refl _) (Nat.le_refl _)), (f2.i (by omega) (fun q => by unfold tSc at q; omega)).trans z0, fun _ => rfl⟩
theorem c_errL {f : dwSt → dwR9 Int32} {x : dwR9 Int64} {cl i : Nat} {k : Int32} {v : Int64} (hk : k ≠ 0) (h : ∃ M1 q, x = some (.inr (cl, q), M1) ∧ CInv b w M1 (aBump A i) ∧ fr (cWo b) nz 1 6 M M1) (hX : ∀ M1 q, x = some (.inr (cl, q), M1) → f M = some (.inl k, M1)) : ∃ M1 w', f M = some (.inl k, M1) ∧ CInv b w' M1 (aBump A i) ∧ fr (cWo b) (zWo b) 9000 113000 M M1 ∧ (k = 0 → dwL M1 (b + 561) 0 = v) := by
  obtain ⟨M1, q, e, c1, f1⟩ := h
  exact ⟨M1, w, hX M1 q e, c1, f1.mono (fun _ _ q => q) (fun _ _ q => False.elim q) (by omega) (by omega), fun q => absurd q hk⟩
theorem call_some (hC : CInv b w M A) (hT : TInv b M A) (hR : room M 1 6) (x0 x1 x2 x3 : Int32) : agreeL b M (fun M => m_X0_some M b x0 x1 x2 x3 (b + 561)) (fun M => m_X10_some M (b + 54) x0 x1 x2 x3) := by
  have fail : (m_X1_some M b x0 x1 x2 x3 = xth (m_X1_need M b 0) (fun _ _ => none) (fun cl q M => some (.inr (cl, q), M))) → (∀ M1 M2, TInv b M1 A → m_X10_bad (dwPI M1 (b + 54) 44 0) (b + 54) 1 1 1 = some (1, M2) → m_X10_some M1 (b + 54) x0 x1 x2 x3 = some (0, M2)) → agreeL b M (fun M => m_X0_some M b x0 x1 x2 x3 (b + 561)) (fun M => m_X10_some M (b + 54) x0 x1 x2 x3) := by
    intro h1 h2
    refine agree_mkL (A' := aBump A 1) (k := 1) (v := 0) hT (c_errL (w := w) (f := fun M => m_X0_some M b x0 x1 x2 x3 (b + 561)) (v := 0) (x := m_X1_some M b x0 x1 x2 x3) (cl := 1) (k := 1) (i := 1) (by decide) ?_ ?_) fun M1 h1 => t_errL (g := fun M => m_X10_some M (b + 54) x0 x1 x2 x3) (v := 0) (x := 1) (i := 1) h1 (by decide) (by decide) fun M2 e => h2 M1 M2 h1 e
    · obtain ⟨M1, q, e, h⟩ := c_need0 rfl hC hR
      exact ⟨M1, q, by rw [h1, e]; rfl, h⟩
    · intro M1 q e
      simp -implicitDefEqProofs only [m_X0_some, ↓xgI_u, ↓xpI_u, ↓xaI_u, ↓xsI_u, ↓xrk_u, ↓xrk0_u, ↓xob_v, ↓xmb_v, ↓xth_v, ↓xth_x, ↓jn_u, ↓xlen_u, ↓xaL_u, ↓xsL_u, ↓xbl_0, ↓xbl_1, eq_self, inb_n, inb_d, Sh_PI, Sh_PL, dk_PI, dk_PL, dr_PI, dr_PL, ↓reduceIte, Int32.reduceLE, Int32.reduceLT, Int32.reduceToNatClampNeg, Nat.reduceLT, Nat.reduceLeDiff, Nat.reduceEqDiff, Nat.reduceAdd, Nat.reduceMul, kd0 hC.1.1, e]
  rcases inV_01 x0 0 12 with g0 | g0
  · refine fail ?_ fun M1 M2 h1 e => ?_
    · obtain ⟨M1, q, e, h⟩ := c_need0 rfl hC hR
      simp -implicitDefEqProofs only [m_X1_some, ↓xgI_u, ↓xpI_u, ↓xaI_u, ↓xsI_u, ↓xrk_u, ↓xrk0_u, ↓xob_v, ↓xmb_v, ↓xth_v, ↓xth_x, ↓jn_u, ↓xlen_u, ↓xaL_u, ↓xsL_u, ↓xbl_0, ↓xbl_1, eq_self, inb_n, inb_d, Sh_PI, Sh_PL, dk_PI, dk_PL, dr_PI, dr_PL, ↓reduceIte, Int32.reduceLE, Int32.reduceLT, Int32.reduceToNatClampNeg, Nat.reduceLT, Nat.reduceLeDiff, Nat.reduceEqDiff, Nat.reduceAdd, Nat.reduceMul, kd0 hC.1.1, c_isIn, c_part, e10, g0, e]
    · obtain ⟨hT0, f0, z0⟩ := tinv_z h1
      simp -implicitDefEqProofs only [m_X10_some, ↓gp0_2, ↓gp0_3, ↓gp0_4, ↓gp0_5, ↓gp0_6, ↓gp0_7, ↓gp0_8, ↓gp0_9, ↓gp0_10, ↓gp0_18, ↓gp0_19, ↓gp0_20, ↓gp0_22, ↓gp23_43, ↓gp23_32, ↓gp23_33, ↓gp23_34, ↓gp23_35, ↓gp23_36, ↓gp29_43, ↓gp29_32, ↓gp29_33, ↓gp29_34, ↓gp29_35, ↓gp29_36, ↓gp54_53, ↓gp54_54, ↓gp54_55, ↓gp54_56, ↓gp54_57, ↓gp54_58, ↓gp54_59, ↓gp54_60, ↓gp54_61, ↓gp54_62, ↓gp54_65, ↓gp54_66, ↓gp54_67, ↓gp54_68, ↓gp54_69, ↓gp54_70, ↓gp54_71, ↓gp54_73, ↓gp54_74, ↓gp54_75, ↓gp54_76, ↓gp54_84, ↓gp54_85, ↓gp54_87, ↓gp54_88, ↓xr59, kr59, ↓xr67, kr67, ↓xr75, kr75, ↓xr82, kr82, ↓xr89, kr89, ↓xr102, kr102, ↓xr115, kr115, ↓xr276, kr276, ↓xr437, kr437, ↓xr444, kr444, ↓xr453, kr453, ↓xr536, kr536, ↓xr553, kr553, hs0, hw0, hs1, hw1, hs2, hw2, hs3, hw3, hs4, hw4, hs5, hw5, hs6, hw6, hs7, hw7, hs8, hw8, hs9, hw9, hs10, hw10, hs11, hw11, hs12, hw12, hs13, hw13, hs14, hw14, hs15, hw15, hs16, hw16, hs17, hw17, hs18, hw18, hs19, hw19, hs20, hw20, hs21, hw21, hs22, hw22, hs23, hw23, hs25, hw25, hs26, hw26, hs27, hw27, hs28, hw28, hs9b, hw9b, hs10b, hw10b, kd0, kd20, kd21, kd22, kd23, kd24, kd25, kd26, kd27, kd28, kd29, kd30, kd31, kd32, kd33, kd34, kd35, kd36, kd37, kd38, kd39, kd40, kd41, kd42, kd54, kd55, kd56, kd57, kd58, kd59, kd67, kd75, kd82, kd89, kd102, kd115, kd276, kd437, kd444, kd451, kd452, kd453, kd534, kd535, kd536, kd553, kd557, kd558, kd559, kd560, kd561, ↓xgI_u, ↓xpI_u, ↓xaI_u, ↓xsI_u, ↓xrk_u, ↓xrk0_u, ↓xob_v, ↓xmb_v, ↓xth_v, ↓xth_x, ↓jn_u, ↓xlen_u, ↓xaL_u, ↓xsL_u, ↓xbl_0, ↓xbl_1, eq_self, inb_n, inb_d, Sh_PI, Sh_PL, dk_PI, dk_PL, dr_PI, dr_PL, ↓reduceIte, Int32.reduceLE, Int32.reduceLT, Int32.reduceToNatClampNeg, Nat.reduceLT, Nat.reduceLeDiff, Nat.reduceEqDiff, Nat.reduceAdd, Nat.reduceMul, h1.1.1, t_in, e10, g0, e]
  rcases inV_01 x1 0 13 with g1 | g1
  · refine fail ?_ fun M1 M2 h1 e => ?_
    · obtain ⟨M1, q, e, h⟩ := c_need0 rfl hC hR
      simp -implicitDefEqProofs only [m_X1_some, ↓xgI_u, ↓xpI_u, ↓xaI_u, ↓xsI_u, ↓xrk_u, ↓xrk0_u, ↓xob_v, ↓xmb_v, ↓xth_v, ↓xth_x, ↓jn_u, ↓xlen_u, ↓xaL_u, ↓xsL_u, ↓xbl_0, ↓xbl_1, eq_self, inb_n, inb_d, Sh_PI, Sh_PL, dk_PI, dk_PL, dr_PI, dr_PL, ↓reduceIte, Int32.reduceLE, Int32.reduceLT, Int32.reduceToNatClampNeg, Nat.reduceLT, Nat.reduceLeDiff, Nat.reduceEqDiff, Nat.reduceAdd, Nat.reduceMul, kd0 hC.1.1, c_isIn, c_part, e10, g0, g1, e]
    · obtain ⟨hT0, f0, z0⟩ := tinv_z h1
      simp -implicitDefEqProofs only [m_X10_some, ↓gp0_2, ↓gp0_3, ↓gp0_4, ↓gp0_5, ↓gp0_6, ↓gp0_7, ↓gp0_8, ↓gp0_9, ↓gp0_10, ↓gp0_18, ↓gp0_19, ↓gp0_20, ↓gp0_22, ↓gp23_43, ↓gp23_32, ↓gp23_33, ↓gp23_34, ↓gp23_35, ↓gp23_36, ↓gp29_43, ↓gp29_32, ↓gp29_33, ↓gp29_34, ↓gp29_35, ↓gp29_36, ↓gp54_53, ↓gp54_54, ↓gp54_55, ↓gp54_56, ↓gp54_57, ↓gp54_58, ↓gp54_59, ↓gp54_60, ↓gp54_61, ↓gp54_62, ↓gp54_65, ↓gp54_66, ↓gp54_67, ↓gp54_68, ↓gp54_69, ↓gp54_70, ↓gp54_71, ↓gp54_73, ↓gp54_74, ↓gp54_75, ↓gp54_76, ↓gp54_84, ↓gp54_85, ↓gp54_87, ↓gp54_88, ↓xr59, kr59, ↓xr67, kr67, ↓xr75, kr75, ↓xr82, kr82, ↓xr89, kr89, ↓xr102, kr102, ↓xr115, kr115, ↓xr276, kr276, ↓xr437, kr437, ↓xr444, kr444, ↓xr453, kr453, ↓xr536, kr536, ↓xr553, kr553, hs0, hw0, hs1, hw1, hs2, hw2, hs3, hw3, hs4, hw4, hs5, hw5, hs6, hw6, hs7, hw7, hs8, hw8, hs9, hw9, hs10, hw10, hs11, hw11, hs12, hw12, hs13, hw13, hs14, hw14, hs15, hw15, hs16, hw16, hs17, hw17, hs18, hw18, hs19, hw19, hs20, hw20, hs21, hw21, hs22, hw22, hs23, hw23, hs25, hw25, hs26, hw26, hs27, hw27, hs28, hw28, hs9b, hw9b, hs10b, hw10b, kd0, kd20, kd21, kd22, kd23, kd24, kd25, kd26, kd27, kd28, kd29, kd30, kd31, kd32, kd33, kd34, kd35, kd36, kd37, kd38, kd39, kd40, kd41, kd42, kd54, kd55, kd56, kd57, kd58, kd59, kd67, kd75, kd82, kd89, kd102, kd115, kd276, kd437, kd444, kd451, kd452, kd453, kd534, kd535, kd536, kd553, kd557, kd558, kd559, kd560, kd561, ↓xgI_u, ↓xpI_u, ↓xaI_u, ↓xsI_u, ↓xrk_u, ↓xrk0_u, ↓xob_v, ↓xmb_v, ↓xth_v, ↓xth_x, ↓jn_u, ↓xlen_u, ↓xaL_u, ↓xsL_u, ↓xbl_0, ↓xbl_1, eq_self, inb_n, inb_d, Sh_PI, Sh_PL, dk_PI, dk_PL, dr_PI, dr_PL, ↓reduceIte, Int32.reduceLE, Int32.reduceLT, Int32.reduceToNatClampNeg, Nat.reduceLT, Nat.reduceLeDiff, Nat.reduceEqDiff, Nat.reduceAdd, Nat.reduceMul, h1.1.1, t_in, e10, g0, g1, e]
  rcases inV_01 x2 0 16 with g2 | g2
  · refine fail ?_ fun M1 M2 h1 e => ?_
    · obtain ⟨M1, q, e, h⟩ := c_need0 rfl hC hR
      simp -implicitDefEqProofs only [m_X1_some, ↓xgI_u, ↓xpI_u, ↓xaI_u, ↓xsI_u, ↓xrk_u, ↓xrk0_u, ↓xob_v, ↓xmb_v, ↓xth_v, ↓xth_x, ↓jn_u, ↓xlen_u, ↓xaL_u, ↓xsL_u, ↓xbl_0, ↓xbl_1, eq_self, inb_n, inb_d, Sh_PI, Sh_PL, dk_PI, dk_PL, dr_PI, dr_PL, ↓reduceIte, Int32.reduceLE, Int32.reduceLT, Int32.reduceToNatClampNeg, Nat.reduceLT, Nat.reduceLeDiff, Nat.reduceEqDiff, Nat.reduceAdd, Nat.reduceMul, kd0 hC.1.1, c_isIn, c_part, e10, g0, g1, g2, e]
    · obtain ⟨hT0, f0, z0⟩ := tinv_z h1
      simp -implicitDefEqProofs only [m_X10_some, ↓gp0_2, ↓gp0_3, ↓gp0_4, ↓gp0_5, ↓gp0_6, ↓gp0_7, ↓gp0_8, ↓gp0_9, ↓gp0_10, ↓gp0_18, ↓gp0_19, ↓gp0_20, ↓gp0_22, ↓gp23_43, ↓gp23_32, ↓gp23_33, ↓gp23_34, ↓gp23_35, ↓gp23_36, ↓gp29_43, ↓gp29_32, ↓gp29_33, ↓gp29_34, ↓gp29_35, ↓gp29_36, ↓gp54_53, ↓gp54_54, ↓gp54_55, ↓gp54_56, ↓gp54_57, ↓gp54_58, ↓gp54_59, ↓gp54_60, ↓gp54_61, ↓gp54_62, ↓gp54_65, ↓gp54_66, ↓gp54_67, ↓gp54_68, ↓gp54_69, ↓gp54_70, ↓gp54_71, ↓gp54_73, ↓gp54_74, ↓gp54_75, ↓gp54_76, ↓gp54_84, ↓gp54_85, ↓gp54_87, ↓gp54_88, ↓xr59, kr59, ↓xr67, kr67, ↓xr75, kr75, ↓xr82, kr82, ↓xr89, kr89, ↓xr102, kr102, ↓xr115, kr115, ↓xr276, kr276, ↓xr437, kr437, ↓xr444, kr444, ↓xr453, kr453, ↓xr536, kr536, ↓xr553, kr553, hs0, hw0, hs1, hw1, hs2, hw2, hs3, hw3, hs4, hw4, hs5, hw5, hs6, hw6, hs7, hw7, hs8, hw8, hs9, hw9, hs10, hw10, hs11, hw11, hs12, hw12, hs13, hw13, hs14, hw14, hs15, hw15, hs16, hw16, hs17, hw17, hs18, hw18, hs19, hw19, hs20, hw20, hs21, hw21, hs22, hw22, hs23, hw23, hs25, hw25, hs26, hw26, hs27, hw27, hs28, hw28, hs9b, hw9b, hs10b, hw10b, kd0, kd20, kd21, kd22, kd23, kd24, kd25, kd26, kd27, kd28, kd29, kd30, kd31, kd32, kd33, kd34, kd35, kd36, kd37, kd38, kd39, kd40, kd41, kd42, kd54, kd55, kd56, kd57, kd58, kd59, kd67, kd75, kd82, kd89, kd102, kd115, kd276, kd437, kd444, kd451, kd452, kd453, kd534, kd535, kd536, kd553, kd557, kd558, kd559, kd560, kd561, ↓xgI_u, ↓xpI_u, ↓xaI_u, ↓xsI_u, ↓xrk_u, ↓xrk0_u, ↓xob_v, ↓xmb_v, ↓xth_v, ↓xth_x, ↓jn_u, ↓xlen_u, ↓xaL_u, ↓xsL_u, ↓xbl_0, ↓xbl_1, eq_self, inb_n, inb_d, Sh_PI, Sh_PL, dk_PI, dk_PL, dr_PI, dr_PL, ↓reduceIte, Int32.reduceLE, Int32.reduceLT, Int32.reduceToNatClampNeg, Nat.reduceLT, Nat.reduceLeDiff, Nat.reduceEqDiff, Nat.reduceAdd, Nat.reduceMul, h1.1.1, t_in, e10, g0, g1, g2, e]
  rcases inV_01 x3 0 1 with g3 | g3
  · refine fail ?_ fun M1 M2 h1 e => ?_
    · obtain ⟨M1, q, e, h⟩ := c_need0 rfl hC hR
      simp -implicitDefEqProofs only [m_X1_some, ↓xgI_u, ↓xpI_u, ↓xaI_u, ↓xsI_u, ↓xrk_u, ↓xrk0_u, ↓xob_v, ↓xmb_v, ↓xth_v, ↓xth_x, ↓jn_u, ↓xlen_u, ↓xaL_u, ↓xsL_u, ↓xbl_0, ↓xbl_1, eq_self, inb_n, inb_d, Sh_PI, Sh_PL, dk_PI, dk_PL, dr_PI, dr_PL, ↓reduceIte, Int32.reduceLE, Int32.reduceLT, Int32.reduceToNatClampNeg, Nat.reduceLT, Nat.reduceLeDiff, Nat.reduceEqDiff, Nat.reduceAdd, Nat.reduceMul, kd0 hC.1.1, c_isIn, c_part, e10, g0, g1, g2, g3, e]
    · obtain ⟨hT0, f0, z0⟩ := tinv_z h1
      simp -implicitDefEqProofs only [m_X10_some, ↓gp0_2, ↓gp0_3, ↓gp0_4, ↓gp0_5, ↓gp0_6, ↓gp0_7, ↓gp0_8, ↓gp0_9, ↓gp0_10, ↓gp0_18, ↓gp0_19, ↓gp0_20, ↓gp0_22, ↓gp23_43, ↓gp23_32, ↓gp23_33, ↓gp23_34, ↓gp23_35, ↓gp23_36, ↓gp29_43, ↓gp29_32, ↓gp29_33, ↓gp29_34, ↓gp29_35, ↓gp29_36, ↓gp54_53, ↓gp54_54, ↓gp54_55, ↓gp54_56, ↓gp54_57, ↓gp54_58, ↓gp54_59, ↓gp54_60, ↓gp54_61, ↓gp54_62, ↓gp54_65, ↓gp54_66, ↓gp54_67, ↓gp54_68, ↓gp54_69, ↓gp54_70, ↓gp54_71, ↓gp54_73, ↓gp54_74, ↓gp54_75, ↓gp54_76, ↓gp54_84, ↓gp54_85, ↓gp54_87, ↓gp54_88, ↓xr59, kr59, ↓xr67, kr67, ↓xr75, kr75, ↓xr82, kr82, ↓xr89, kr89, ↓xr102, kr102, ↓xr115, kr115, ↓xr276, kr276, ↓xr437, kr437, ↓xr444, kr444, ↓xr453, kr453, ↓xr536, kr536, ↓xr553, kr553, hs0, hw0, hs1, hw1, hs2, hw2, hs3, hw3, hs4, hw4, hs5, hw5, hs6, hw6, hs7, hw7, hs8, hw8, hs9, hw9, hs10, hw10, hs11, hw11, hs12, hw12, hs13, hw13, hs14, hw14, hs15, hw15, hs16, hw16, hs17, hw17, hs18, hw18, hs19, hw19, hs20, hw20, hs21, hw21, hs22, hw22, hs23, hw23, hs25, hw25, hs26, hw26, hs27, hw27, hs28, hw28, hs9b, hw9b, hs10b, hw10b, kd0, kd20, kd21, kd22, kd23, kd24, kd25, kd26, kd27, kd28, kd29, kd30, kd31, kd32, kd33, kd34, kd35, kd36, kd37, kd38, kd39, kd40, kd41, kd42, kd54, kd55, kd56, kd57, kd58, kd59, kd67, kd75, kd82, kd89, kd102, kd115, kd276, kd437, kd444, kd451, kd452, kd453, kd534, kd535, kd536, kd553, kd557, kd558, kd559, kd560, kd561, ↓xgI_u, ↓xpI_u, ↓xaI_u, ↓xsI_u, ↓xrk_u, ↓xrk0_u, ↓xob_v, ↓xmb_v, ↓xth_v, ↓xth_x, ↓jn_u, ↓xlen_u, ↓xaL_u, ↓xsL_u, ↓xbl_0, ↓xbl_1, eq_self, inb_n, inb_d, Sh_PI, Sh_PL, dk_PI, dk_PL, dr_PI, dr_PL, ↓reduceIte, Int32.reduceLE, Int32.reduceLT, Int32.reduceToNatClampNeg, Nat.reduceLT, Nat.reduceLeDiff, Nat.reduceEqDiff, Nat.reduceAdd, Nat.reduceMul, h1.1.1, t_in, e10, g0, g1, g2, g3, e]
  exact agree_mkL (A' := A) (k := 0) hT (c_okL (f := fun M => m_X0_some M b x0 x1 x2 x3 (b + 561)) hC (C_some hC g0 g1 g2 g3) fun M1 e k => by simp -implicitDefEqProofs only [m_X0_some, ↓xgI_u, ↓xpI_u, ↓xaI_u, ↓xsI_u, ↓xrk_u, ↓xrk0_u, ↓xob_v, ↓xmb_v, ↓xth_v, ↓xth_x, ↓jn_u, ↓xlen_u, ↓xaL_u, ↓xsL_u, ↓xbl_0, ↓xbl_1, eq_self, inb_n, inb_d, Sh_PI, Sh_PL, dk_PI, dk_PL, dr_PI, dr_PL, ↓reduceIte, Int32.reduceLE, Int32.reduceLT, Int32.reduceToNatClampNeg, Nat.reduceLT, Nat.reduceLeDiff, Nat.reduceEqDiff, Nat.reduceAdd, Nat.reduceMul, kd0 hC.1.1, e, k]) fun M1 h1 => t_okL (g := fun M => m_X10_some M (b + 54) x0 x1 x2 x3) h1 (T_some h1 g0 g1 g2 g3)
end CALL
