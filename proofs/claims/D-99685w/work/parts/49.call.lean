/-! the least of the good ones by a count; of equals the first -/
def minP (good : Nat → Prop) (cnt : Nat → Int32) (lo hi : Nat) (v : Int32) : Prop :=
  (v = -1 ∧ ∀ s, lo ≤ s → s < hi → ¬ good s) ∨ ∃ r, lo ≤ r ∧ r < hi ∧ v = Int32.ofNat r ∧ good r ∧ (∀ s, lo ≤ s → s < hi → good s → cnt r ≤ cnt s) ∧ ∀ s, lo ≤ s → s < r → good s → cnt r < cnt s
theorem minP_u {good : Nat → Prop} {cnt : Nat → Int32} {lo hi : Nat} {v v' : Int32} (h : minP good cnt lo hi v) (h' : minP good cnt lo hi v') : v = v' := by
  rcases h with ⟨e, h⟩ | ⟨r, r1, r2, r3, r4, r5, r6⟩
  · rcases h' with ⟨e', h'⟩ | ⟨s, s1, s2, s3, s4, s5, s6⟩
    · rw [e, e']
    · exact absurd s4 (h s s1 s2)
  · rcases h' with ⟨e', h'⟩ | ⟨s, s1, s2, s3, s4, s5, s6⟩
    · exact absurd r4 (h' r r1 r2)
    · have a := r5 s s1 s2 s4
      have c := s5 r r1 r2 r4
      rcases Nat.lt_trichotomy r s with q | q | q
      · have := s6 r r1 q r4
        exact absurd a (Int32.not_le.mpr this)
      · rw [r3, s3, q]
      · have := r6 s s1 q s4
        exact absurd c (Int32.not_le.mpr this)
theorem minP_0 {good : Nat → Prop} {cnt : Nat → Int32} {lo : Nat} : minP good cnt lo lo (-1) := Or.inl ⟨rfl, fun s h1 h2 => by omega⟩
theorem minP_no {good : Nat → Prop} {cnt : Nat → Int32} {lo i : Nat} {v : Int32} (h : minP good cnt lo i v) (hg : ¬ good i) : minP good cnt lo (i + 1) v := by
  rcases h with ⟨e, h⟩ | ⟨r, r1, r2, r3, r4, r5, r6⟩
  · refine Or.inl ⟨e, fun s h1 h2 => ?_⟩
    by_cases q : s = i
    · subst q; exact hg
    · exact h s h1 (by omega)
  · refine Or.inr ⟨r, r1, by omega, r3, r4, fun s h1 h2 hs => ?_, r6⟩
    by_cases q : s = i
    · subst q; exact absurd hs hg
    · exact r5 s h1 (by omega) hs
theorem minP_new {good : Nat → Prop} {cnt : Nat → Int32} {lo i : Nat} (hl : lo ≤ i) (h : minP good cnt lo i (-1)) (hi : i < 1000000) (hg : good i) : minP good cnt lo (i + 1) (Int32.ofNat i) := by
  rcases h with ⟨e, h⟩ | ⟨r, r1, r2, r3, r4, r5, r6⟩
  · refine Or.inr ⟨i, hl, by omega, rfl, hg, fun s h1 h2 hs => ?_, fun s h1 h2 hs => absurd hs (h s h1 h2)⟩
    by_cases q : s = i
    · subst q; exact Int32.le_refl _
    · exact absurd hs (h s h1 (by omega))
  · have := nn_m1 (show r < 2147483648 by omega)
    rw [← r3] at this
    exact (this ▸ rfl : False).elim
theorem minP_up {good : Nat → Prop} {cnt : Nat → Int32} {lo i r : Nat} (hl : lo ≤ i) (h : minP good cnt lo i (Int32.ofNat r)) (hr : r < 1000000) (hi : i < 1000000) (hg : good i) : (cnt i < cnt r → minP good cnt lo (i + 1) (Int32.ofNat i)) ∧ (¬ cnt i < cnt r → minP good cnt lo (i + 1) (Int32.ofNat r)) := by
  rcases h with ⟨e, h⟩ | ⟨r', r1, r2, r3, r4, r5, r6⟩
  · have := nn_m1 (show r < 2147483648 by omega)
    rw [e] at this
    exact (this ▸ rfl : False).elim
  · have er : r = r' := (i_inj (by omega) (by omega)).mp r3
    subst er
    constructor
    · intro hc
      refine Or.inr ⟨i, hl, by omega, rfl, hg, fun s h1 h2 hs => ?_, fun s h1 h2 hs => ?_⟩
      · by_cases q : s = i
        · subst q; exact Int32.le_refl _
        · exact Int32.le_of_lt (Int32.lt_of_lt_of_le hc (r5 s h1 (by omega) hs))
      · exact Int32.lt_of_lt_of_le hc (r5 s h1 h2 hs)
    · intro hc
      refine Or.inr ⟨r, r1, by omega, rfl, r4, fun s h1 h2 hs => ?_, r6⟩
      by_cases q : s = i
      · subst q; exact Int32.not_lt.mp hc
      · exact r5 s h1 (by omega) hs
theorem minP_dn {good : Nat → Prop} {cnt : Nat → Int32} {hi i : Nat} {v : Int32} (h : minP good cnt (i + 1) hi v) (hi2 : i < hi) (hh : hi < 1000000) : (¬ good i → minP good cnt i hi v) ∧ (good i → v = -1 → minP good cnt i hi (Int32.ofNat i)) ∧ (good i → ∀ r, r < 1000000 → v = Int32.ofNat r → (cnt i ≤ cnt r → minP good cnt i hi (Int32.ofNat i)) ∧ (¬ cnt i ≤ cnt r → minP good cnt i hi v)) := by
  rcases h with ⟨e, h⟩ | ⟨r', r1, r2, r3, r4, r5, r6⟩
  · refine ⟨fun hg => Or.inl ⟨e, fun s h1 h2 => ?_⟩, fun hg _ => Or.inr ⟨i, Nat.le_refl _, hi2, rfl, hg, fun s h1 h2 hs => ?_, fun s h1 h2 hs => by omega⟩, fun hg r hr er => ?_⟩
    · by_cases q : s = i
      · subst q; exact hg
      · exact h s (by omega) h2
    · by_cases q : s = i
      · subst q; exact Int32.le_refl _
      · exact absurd hs (h s (by omega) h2)
    · have := nn_m1 (show r < 2147483648 by omega)
      rw [← er, e] at this
      exact (this ▸ rfl : False).elim
  · refine ⟨fun hg => Or.inr ⟨r', by omega, r2, r3, r4, fun s h1 h2 hs => ?_, fun s h1 h2 hs => ?_⟩, fun hg em => ?_, fun hg r hr er => ?_⟩
    · by_cases q : s = i
      · subst q; exact absurd hs hg
      · exact r5 s (by omega) h2 hs
    · by_cases q : s = i
      · subst q; exact absurd hs hg
      · exact r6 s (by omega) h2 hs
    · have := nn_m1 (show r' < 2147483648 by omega)
      rw [← r3, em] at this
      exact (this ▸ rfl : False).elim
    · have e2 : r = r' := (i_inj (by omega) (by omega)).mp (er.symm.trans r3)
      subst e2
      constructor
      · intro hc
        refine Or.inr ⟨i, Nat.le_refl _, hi2, rfl, hg, fun s h1 h2 hs => ?_, fun s h1 h2 hs => by omega⟩
        by_cases q : s = i
        · subst q; exact Int32.le_refl _
        · exact Int32.le_trans hc (r5 s (by omega) h2 hs)
      · intro hc
        refine Or.inr ⟨r, by omega, r2, r3, r4, fun s h1 h2 hs => ?_, fun s h1 h2 hs => ?_⟩
        · by_cases q : s = i
          · subst q; exact Int32.le_of_lt (Int32.not_le.mp hc)
          · exact r5 s (by omega) h2 hs
        · by_cases q : s = i
          · subst q; exact Int32.not_le.mp hc
          · exact r6 s (by omega) h2 hs
theorem minP_r {good : Nat → Prop} {cnt : Nat → Int32} {lo hi : Nat} {v : Int32} (h : minP good cnt lo hi v) : v = -1 ∨ ∃ r, r < hi ∧ v = Int32.ofNat r := by
  rcases h with ⟨e, h⟩ | ⟨r, r1, r2, r3, -⟩
  · exact Or.inl e
  · exact Or.inr ⟨r, r2, r3⟩
def cntS (s : Nat) : Int32 := onesS (Int32.ofNat s)
theorem all_n : ∀ n, n < 8 → ((1 : Int32) <<< (Int32.ofNat n &&& 31)) - 1 = Int32.ofNat (2 ^ n - 1) := by decide +kernel
theorem p2_le {n : Nat} (h : n ≤ 7) : 2 ^ n ≤ 128 := Nat.pow_le_pow_right (n := 2) (by omega) h
section CALL
variable {b : Nat} {w : Nat → Nat} {M : dwSt} {A : dvA}
theorem c_all (hC : CInv b w M A) : m_X1_all M b = some (Int32.ofNat (2 ^ tP (aT A) - 1)) := by
  have o1 := hC.1.ok.1.1
  simp -implicitDefEqProofs only [m_X1_all, ↓xgI_u, ↓xpI_u, ↓xaI_u, ↓xsI_u, ↓xrk_u, ↓xrk0_u, ↓xob_v, ↓xmb_v, ↓xth_v, ↓xth_x, ↓jn_u, ↓xlen_u, ↓xaL_u, ↓xsL_u, ↓xbl_0, ↓xbl_1, eq_self, inb_n, inb_d, Sh_PI, Sh_PL, dk_PI, dk_PL, dr_PI, dr_PL, ↓reduceIte, Int32.reduceLE, Int32.reduceLT, Int32.reduceToNatClampNeg, Nat.reduceLT, Nat.reduceLeDiff, Nat.reduceEqDiff, Nat.reduceAdd, Nat.reduceMul, kd0 hC.1.1, c_persons hC.1.1 hC.1.2.1, all_n _ (show tP (aT A) < 8 by omega)]
/-! share -/
def shrS (A : dvA) (x bd : Int32) : Int32 := itr (fun p s => s + (if (x >>> (Int32.ofNat p &&& 31)) &&& 1 = 1 then lessS bd (aNow A (7 + p)) else 0)) 0 (tP (aT A))
theorem c_shared {x bd : Int32} (hC : CInv b w M A) : m_X1_shared M b x bd = some (shrS A x bd) := by
  have o1 := hC.1.ok.1.1
  have hs := hC.1.1
  have r2 := hC.1.2.2.2.2.1.2.2.1
  simp -implicitDefEqProofs only [m_X1_shared, jn_u]
  refine lpx (E := fun y => y = some (shrS A x bd)) (fun f i (s : Int32) => L_X1_shared_5 M b x bd (fun y1 => some y1) f s (Int32.ofNat i)) (tP (aT A)) (fun i s => s = itr (fun p s => s + (if (x >>> (Int32.ofNat p &&& 31)) &&& 1 = 1 then lessS bd (aNow A (7 + p)) else 0)) 0 i) ?_ ?_ 1000000 0 0 (by omega) (by omega) rfl
  · intro f s e
    subst e
    simp -implicitDefEqProofs only [L_X1_shared_5, ↓xgI_u, ↓xpI_u, ↓xaI_u, ↓xsI_u, ↓xrk_u, ↓xrk0_u, ↓xob_v, ↓xmb_v, ↓xth_v, ↓xth_x, ↓jn_u, ↓xlen_u, ↓xaL_u, ↓xsL_u, ↓xbl_0, ↓xbl_1, eq_self, inb_n, inb_d, Sh_PI, Sh_PL, dk_PI, dk_PL, dr_PI, dr_PL, ↓reduceIte, Int32.reduceLE, Int32.reduceLT, Int32.reduceToNatClampNeg, Nat.reduceLT, Nat.reduceLeDiff, Nat.reduceEqDiff, Nat.reduceAdd, Nat.reduceMul, kd0 hs, c_persons hs hC.1.2.1, i_geT, if_true]
    rfl
  · intro f i s hi e hn
    have hi7 : i < 7 := by omega
    by_cases hc : (x >>> (Int32.ofNat i &&& 31)) &&& 1 = 1
    · simp -implicitDefEqProofs only [L_X1_shared_5, m_X1_has, ↓gp0_2, ↓gp0_3, ↓gp0_4, ↓gp0_5, ↓gp0_6, ↓gp0_7, ↓gp0_8, ↓gp0_9, ↓gp0_10, ↓gp0_18, ↓gp0_19, ↓gp0_20, ↓gp0_22, ↓gp23_43, ↓gp23_32, ↓gp23_33, ↓gp23_34, ↓gp23_35, ↓gp23_36, ↓gp29_43, ↓gp29_32, ↓gp29_33, ↓gp29_34, ↓gp29_35, ↓gp29_36, ↓gp54_53, ↓gp54_54, ↓gp54_55, ↓gp54_56, ↓gp54_57, ↓gp54_58, ↓gp54_59, ↓gp54_60, ↓gp54_61, ↓gp54_62, ↓gp54_65, ↓gp54_66, ↓gp54_67, ↓gp54_68, ↓gp54_69, ↓gp54_70, ↓gp54_71, ↓gp54_73, ↓gp54_74, ↓gp54_75, ↓gp54_76, ↓gp54_84, ↓gp54_85, ↓gp54_87, ↓gp54_88, ↓xr59, kr59, ↓xr67, kr67, ↓xr75, kr75, ↓xr82, kr82, ↓xr89, kr89, ↓xr102, kr102, ↓xr115, kr115, ↓xr276, kr276, ↓xr437, kr437, ↓xr444, kr444, ↓xr453, kr453, ↓xr536, kr536, ↓xr553, kr553, hs0, hw0, hs1, hw1, hs2, hw2, hs3, hw3, hs4, hw4, hs5, hw5, hs6, hw6, hs7, hw7, hs8, hw8, hs9, hw9, hs10, hw10, hs11, hw11, hs12, hw12, hs13, hw13, hs14, hw14, hs15, hw15, hs16, hw16, hs17, hw17, hs18, hw18, hs19, hw19, hs20, hw20, hs21, hw21, hs22, hw22, hs23, hw23, hs25, hw25, hs26, hw26, hs27, hw27, hs28, hw28, hs9b, hw9b, hs10b, hw10b, kd0, kd20, kd21, kd22, kd23, kd24, kd25, kd26, kd27, kd28, kd29, kd30, kd31, kd32, kd33, kd34, kd35, kd36, kd37, kd38, kd39, kd40, kd41, kd42, kd54, kd55, kd56, kd57, kd58, kd59, kd67, kd75, kd82, kd89, kd102, kd115, kd276, kd437, kd444, kd451, kd452, kd453, kd534, kd535, kd536, kd553, kd557, kd558, kd559, kd560, kd561, ↓xgI_u, ↓xpI_u, ↓xaI_u, ↓xsI_u, ↓xrk_u, ↓xrk0_u, ↓xob_v, ↓xmb_v, ↓xth_v, ↓xth_x, ↓jn_u, ↓xlen_u, ↓xaL_u, ↓xsL_u, ↓xbl_0, ↓xbl_1, eq_self, inb_n, inb_d, Sh_PI, Sh_PL, dk_PI, dk_PL, dr_PI, dr_PL, ↓reduceIte, Int32.reduceLE, Int32.reduceLT, Int32.reduceToNatClampNeg, Nat.reduceLT, Nat.reduceLeDiff, Nat.reduceEqDiff, Nat.reduceAdd, Nat.reduceMul, hs, c_persons hs hC.1.2.1, i_geF hi (by omega), if_false, hc, if_true, e10, hi7, i_nat (show i < 2147483648 by omega), r2 i hi7, min_less, less_comm _ bd, i_succ]
      refine hn _ ?_
      rw [← itr_s, if_pos hc, e]
    · simp -implicitDefEqProofs only [L_X1_shared_5, m_X1_has, ↓gp0_2, ↓gp0_3, ↓gp0_4, ↓gp0_5, ↓gp0_6, ↓gp0_7, ↓gp0_8, ↓gp0_9, ↓gp0_10, ↓gp0_18, ↓gp0_19, ↓gp0_20, ↓gp0_22, ↓gp23_43, ↓gp23_32, ↓gp23_33, ↓gp23_34, ↓gp23_35, ↓gp23_36, ↓gp29_43, ↓gp29_32, ↓gp29_33, ↓gp29_34, ↓gp29_35, ↓gp29_36, ↓gp54_53, ↓gp54_54, ↓gp54_55, ↓gp54_56, ↓gp54_57, ↓gp54_58, ↓gp54_59, ↓gp54_60, ↓gp54_61, ↓gp54_62, ↓gp54_65, ↓gp54_66, ↓gp54_67, ↓gp54_68, ↓gp54_69, ↓gp54_70, ↓gp54_71, ↓gp54_73, ↓gp54_74, ↓gp54_75, ↓gp54_76, ↓gp54_84, ↓gp54_85, ↓gp54_87, ↓gp54_88, ↓xr59, kr59, ↓xr67, kr67, ↓xr75, kr75, ↓xr82, kr82, ↓xr89, kr89, ↓xr102, kr102, ↓xr115, kr115, ↓xr276, kr276, ↓xr437, kr437, ↓xr444, kr444, ↓xr453, kr453, ↓xr536, kr536, ↓xr553, kr553, hs0, hw0, hs1, hw1, hs2, hw2, hs3, hw3, hs4, hw4, hs5, hw5, hs6, hw6, hs7, hw7, hs8, hw8, hs9, hw9, hs10, hw10, hs11, hw11, hs12, hw12, hs13, hw13, hs14, hw14, hs15, hw15, hs16, hw16, hs17, hw17, hs18, hw18, hs19, hw19, hs20, hw20, hs21, hw21, hs22, hw22, hs23, hw23, hs25, hw25, hs26, hw26, hs27, hw27, hs28, hw28, hs9b, hw9b, hs10b, hw10b, kd0, kd20, kd21, kd22, kd23, kd24, kd25, kd26, kd27, kd28, kd29, kd30, kd31, kd32, kd33, kd34, kd35, kd36, kd37, kd38, kd39, kd40, kd41, kd42, kd54, kd55, kd56, kd57, kd58, kd59, kd67, kd75, kd82, kd89, kd102, kd115, kd276, kd437, kd444, kd451, kd452, kd453, kd534, kd535, kd536, kd553, kd557, kd558, kd559, kd560, kd561, ↓xgI_u, ↓xpI_u, ↓xaI_u, ↓xsI_u, ↓xrk_u, ↓xrk0_u, ↓xob_v, ↓xmb_v, ↓xth_v, ↓xth_x, ↓jn_u, ↓xlen_u, ↓xaL_u, ↓xsL_u, ↓xbl_0, ↓xbl_1, eq_self, inb_n, inb_d, Sh_PI, Sh_PL, dk_PI, dk_PL, dr_PI, dr_PL, ↓reduceIte, Int32.reduceLE, Int32.reduceLT, Int32.reduceToNatClampNeg, Nat.reduceLT, Nat.reduceLeDiff, Nat.reduceEqDiff, Nat.reduceAdd, Nat.reduceMul, hs, c_persons hs hC.1.2.1, i_geF hi (by omega), if_false, hc, if_true, i_succ]
      refine hn _ ?_
      rw [← itr_s, if_neg hc, e]
theorem t_givenBy {x bd : Int32} (hT : TInv b M A) : m_X10_givenBy M (b + 54) x bd = some (shrS A x bd) := by
  have o1 := hT.1.ok.1.1
  have hs := hT.1.1
  simp -implicitDefEqProofs only [m_X10_givenBy, jn_u]
  refine lpx (E := fun y => y = some (shrS A x bd)) (fun f i (s : Int32) => L_X10_givenBy_5 M (b + 54) x bd (fun y1 => some y1) f s (Int32.ofNat i)) (tP (aT A)) (fun i s => s = itr (fun p s => s + (if (x >>> (Int32.ofNat p &&& 31)) &&& 1 = 1 then lessS bd (aNow A (7 + p)) else 0)) 0 i) ?_ ?_ 1000000 0 0 (by omega) (by omega) rfl
  · intro f s e
    subst e
    simp -implicitDefEqProofs only [L_X10_givenBy_5, ↓gp0_2, ↓gp0_3, ↓gp0_4, ↓gp0_5, ↓gp0_6, ↓gp0_7, ↓gp0_8, ↓gp0_9, ↓gp0_10, ↓gp0_18, ↓gp0_19, ↓gp0_20, ↓gp0_22, ↓gp23_43, ↓gp23_32, ↓gp23_33, ↓gp23_34, ↓gp23_35, ↓gp23_36, ↓gp29_43, ↓gp29_32, ↓gp29_33, ↓gp29_34, ↓gp29_35, ↓gp29_36, ↓gp54_53, ↓gp54_54, ↓gp54_55, ↓gp54_56, ↓gp54_57, ↓gp54_58, ↓gp54_59, ↓gp54_60, ↓gp54_61, ↓gp54_62, ↓gp54_65, ↓gp54_66, ↓gp54_67, ↓gp54_68, ↓gp54_69, ↓gp54_70, ↓gp54_71, ↓gp54_73, ↓gp54_74, ↓gp54_75, ↓gp54_76, ↓gp54_84, ↓gp54_85, ↓gp54_87, ↓gp54_88, ↓xr59, kr59, ↓xr67, kr67, ↓xr75, kr75, ↓xr82, kr82, ↓xr89, kr89, ↓xr102, kr102, ↓xr115, kr115, ↓xr276, kr276, ↓xr437, kr437, ↓xr444, kr444, ↓xr453, kr453, ↓xr536, kr536, ↓xr553, kr553, hs0, hw0, hs1, hw1, hs2, hw2, hs3, hw3, hs4, hw4, hs5, hw5, hs6, hw6, hs7, hw7, hs8, hw8, hs9, hw9, hs10, hw10, hs11, hw11, hs12, hw12, hs13, hw13, hs14, hw14, hs15, hw15, hs16, hw16, hs17, hw17, hs18, hw18, hs19, hw19, hs20, hw20, hs21, hw21, hs22, hw22, hs23, hw23, hs25, hw25, hs26, hw26, hs27, hw27, hs28, hw28, hs9b, hw9b, hs10b, hw10b, kd0, kd20, kd21, kd22, kd23, kd24, kd25, kd26, kd27, kd28, kd29, kd30, kd31, kd32, kd33, kd34, kd35, kd36, kd37, kd38, kd39, kd40, kd41, kd42, kd54, kd55, kd56, kd57, kd58, kd59, kd67, kd75, kd82, kd89, kd102, kd115, kd276, kd437, kd444, kd451, kd452, kd453, kd534, kd535, kd536, kd553, kd557, kd558, kd559, kd560, kd561, ↓xgI_u, ↓xpI_u, ↓xaI_u, ↓xsI_u, ↓xrk_u, ↓xrk0_u, ↓xob_v, ↓xmb_v, ↓xth_v, ↓xth_x, ↓jn_u, ↓xlen_u, ↓xaL_u, ↓xsL_u, ↓xbl_0, ↓xbl_1, eq_self, inb_n, inb_d, Sh_PI, Sh_PL, dk_PI, dk_PL, dr_PI, dr_PL, ↓reduceIte, Int32.reduceLE, Int32.reduceLT, Int32.reduceToNatClampNeg, Nat.reduceLT, Nat.reduceLeDiff, Nat.reduceEqDiff, Nat.reduceAdd, Nat.reduceMul, hs, hT.1.2.1.1, i_geT, if_true]
    rfl
  · intro f i s hi e hn
    have hi79 : 7 + i < 79 := by omega
    by_cases hc : (x >>> (Int32.ofNat i &&& 31)) &&& 1 = 1
    · simp -implicitDefEqProofs only [L_X10_givenBy_5, m_X10_has, ↓gp0_2, ↓gp0_3, ↓gp0_4, ↓gp0_5, ↓gp0_6, ↓gp0_7, ↓gp0_8, ↓gp0_9, ↓gp0_10, ↓gp0_18, ↓gp0_19, ↓gp0_20, ↓gp0_22, ↓gp23_43, ↓gp23_32, ↓gp23_33, ↓gp23_34, ↓gp23_35, ↓gp23_36, ↓gp29_43, ↓gp29_32, ↓gp29_33, ↓gp29_34, ↓gp29_35, ↓gp29_36, ↓gp54_53, ↓gp54_54, ↓gp54_55, ↓gp54_56, ↓gp54_57, ↓gp54_58, ↓gp54_59, ↓gp54_60, ↓gp54_61, ↓gp54_62, ↓gp54_65, ↓gp54_66, ↓gp54_67, ↓gp54_68, ↓gp54_69, ↓gp54_70, ↓gp54_71, ↓gp54_73, ↓gp54_74, ↓gp54_75, ↓gp54_76, ↓gp54_84, ↓gp54_85, ↓gp54_87, ↓gp54_88, ↓xr59, kr59, ↓xr67, kr67, ↓xr75, kr75, ↓xr82, kr82, ↓xr89, kr89, ↓xr102, kr102, ↓xr115, kr115, ↓xr276, kr276, ↓xr437, kr437, ↓xr444, kr444, ↓xr453, kr453, ↓xr536, kr536, ↓xr553, kr553, hs0, hw0, hs1, hw1, hs2, hw2, hs3, hw3, hs4, hw4, hs5, hw5, hs6, hw6, hs7, hw7, hs8, hw8, hs9, hw9, hs10, hw10, hs11, hw11, hs12, hw12, hs13, hw13, hs14, hw14, hs15, hw15, hs16, hw16, hs17, hw17, hs18, hw18, hs19, hw19, hs20, hw20, hs21, hw21, hs22, hw22, hs23, hw23, hs25, hw25, hs26, hw26, hs27, hw27, hs28, hw28, hs9b, hw9b, hs10b, hw10b, kd0, kd20, kd21, kd22, kd23, kd24, kd25, kd26, kd27, kd28, kd29, kd30, kd31, kd32, kd33, kd34, kd35, kd36, kd37, kd38, kd39, kd40, kd41, kd42, kd54, kd55, kd56, kd57, kd58, kd59, kd67, kd75, kd82, kd89, kd102, kd115, kd276, kd437, kd444, kd451, kd452, kd453, kd534, kd535, kd536, kd553, kd557, kd558, kd559, kd560, kd561, ↓xgI_u, ↓xpI_u, ↓xaI_u, ↓xsI_u, ↓xrk_u, ↓xrk0_u, ↓xob_v, ↓xmb_v, ↓xth_v, ↓xth_x, ↓jn_u, ↓xlen_u, ↓xaL_u, ↓xsL_u, ↓xbl_0, ↓xbl_1, eq_self, inb_n, inb_d, Sh_PI, Sh_PL, dk_PI, dk_PL, dr_PI, dr_PL, ↓reduceIte, Int32.reduceLE, Int32.reduceLT, Int32.reduceToNatClampNeg, Nat.reduceLT, Nat.reduceLeDiff, Nat.reduceEqDiff, Nat.reduceAdd, Nat.reduceMul, hs, hT.1.2.1.1, i_geF hi (by omega), if_false, hc, if_true, e10, x_c7, hi79, i_nat (show 7 + i < 2147483648 by omega), hT.1.2.2.2.2.1, t_less, i_succ]
      refine hn _ ?_
      rw [← itr_s, if_pos hc, e]
    · simp -implicitDefEqProofs only [L_X10_givenBy_5, m_X10_has, ↓gp0_2, ↓gp0_3, ↓gp0_4, ↓gp0_5, ↓gp0_6, ↓gp0_7, ↓gp0_8, ↓gp0_9, ↓gp0_10, ↓gp0_18, ↓gp0_19, ↓gp0_20, ↓gp0_22, ↓gp23_43, ↓gp23_32, ↓gp23_33, ↓gp23_34, ↓gp23_35, ↓gp23_36, ↓gp29_43, ↓gp29_32, ↓gp29_33, ↓gp29_34, ↓gp29_35, ↓gp29_36, ↓gp54_53, ↓gp54_54, ↓gp54_55, ↓gp54_56, ↓gp54_57, ↓gp54_58, ↓gp54_59, ↓gp54_60, ↓gp54_61, ↓gp54_62, ↓gp54_65, ↓gp54_66, ↓gp54_67, ↓gp54_68, ↓gp54_69, ↓gp54_70, ↓gp54_71, ↓gp54_73, ↓gp54_74, ↓gp54_75, ↓gp54_76, ↓gp54_84, ↓gp54_85, ↓gp54_87, ↓gp54_88, ↓xr59, kr59, ↓xr67, kr67, ↓xr75, kr75, ↓xr82, kr82, ↓xr89, kr89, ↓xr102, kr102, ↓xr115, kr115, ↓xr276, kr276, ↓xr437, kr437, ↓xr444, kr444, ↓xr453, kr453, ↓xr536, kr536, ↓xr553, kr553, hs0, hw0, hs1, hw1, hs2, hw2, hs3, hw3, hs4, hw4, hs5, hw5, hs6, hw6, hs7, hw7, hs8, hw8, hs9, hw9, hs10, hw10, hs11, hw11, hs12, hw12, hs13, hw13, hs14, hw14, hs15, hw15, hs16, hw16, hs17, hw17, hs18, hw18, hs19, hw19, hs20, hw20, hs21, hw21, hs22, hw22, hs23, hw23, hs25, hw25, hs26, hw26, hs27, hw27, hs28, hw28, hs9b, hw9b, hs10b, hw10b, kd0, kd20, kd21, kd22, kd23, kd24, kd25, kd26, kd27, kd28, kd29, kd30, kd31, kd32, kd33, kd34, kd35, kd36, kd37, kd38, kd39, kd40, kd41, kd42, kd54, kd55, kd56, kd57, kd58, kd59, kd67, kd75, kd82, kd89, kd102, kd115, kd276, kd437, kd444, kd451, kd452, kd453, kd534, kd535, kd536, kd553, kd557, kd558, kd559, kd560, kd561, ↓xgI_u, ↓xpI_u, ↓xaI_u, ↓xsI_u, ↓xrk_u, ↓xrk0_u, ↓xob_v, ↓xmb_v, ↓xth_v, ↓xth_x, ↓jn_u, ↓xlen_u, ↓xaL_u, ↓xsL_u, ↓xbl_0, ↓xbl_1, eq_self, inb_n, inb_d, Sh_PI, Sh_PL, dk_PI, dk_PL, dr_PI, dr_PL, ↓reduceIte, Int32.reduceLE, Int32.reduceLT, Int32.reduceToNatClampNeg, Nat.reduceLT, Nat.reduceLeDiff, Nat.reduceEqDiff, Nat.reduceAdd, Nat.reduceMul, hs, hT.1.2.1.1, i_geF hi (by omega), if_false, hc, if_true, i_succ]
      refine hn _ ?_
      rw [← itr_s, if_neg hc, e]
def shrB (A : dvA) (x n : Int32) (k : Nat) : Bool := decide (n < shrS A x (Int32.ofNat (k + 1)))
def shrV (A : dvA) (p : Nat) (x n : Int32) : Int32 := if (x >>> (Int32.ofNat p &&& 31)) &&& 1 = 1 then lessS (Int32.ofNat (fsN (shrB A x n) 99)) (aNow A (7 + p)) else 0
theorem c_share {p : Nat} {x n : Int32} {ρ : Type} {K : Int32 → Option ρ} (hC : CInv b w M A) : L_X1_share_40 M b (Int32.ofNat p) x n K 1000000 0 = K (Int32.ofNat (fsN (shrB A x n) 99)) := by
  refine lpx (E := fun y => y = K (Int32.ofNat (fsN (shrB A x n) 99))) (fun f i (_ : Unit) => L_X1_share_40 M b (Int32.ofNat p) x n K f (Int32.ofNat i)) 99 (fun i _ => fsN (shrB A x n) i = i) ?_ ?_ 1000000 0 () (by omega) (by omega) rfl
  · intro f _ e
    show L_X1_share_40 M b (Int32.ofNat p) x n K (f + 1) (Int32.ofNat 99) = _
    rw [L_X1_share_40, if_pos (by decide), e]
  · intro f i _ hi e hn
    have h99 := i_geF hi (by omega)
    show L_X1_share_40 M b (Int32.ofNat p) x n K (f + 1) (Int32.ofNat i) = _
    rw [L_X1_share_40, if_neg (show ¬ (99 : Int32) ≤ Int32.ofNat i from fun q => (h99 ▸ q : False))]
    simp only [↓xgI_u, ↓xpI_u, ↓xaI_u, ↓xsI_u, ↓xrk_u, ↓xrk0_u, ↓xob_v, ↓xmb_v, ↓xth_v, ↓xth_x, ↓jn_u, ↓xlen_u, ↓xaL_u, ↓xsL_u, ↓xbl_0, ↓xbl_1, eq_self, inb_n, inb_d, Sh_PI, Sh_PL, dk_PI, dk_PL, dr_PI, dr_PL, ↓reduceIte, Int32.reduceLE, Int32.reduceLT, Int32.reduceToNatClampNeg, Nat.reduceLT, Nat.reduceLeDiff, Nat.reduceEqDiff, Nat.reduceAdd, Nat.reduceMul, kd0 hC.1.1, i_succ, c_shared hC]
    by_cases hc : n < shrS A x (Int32.ofNat (i + 1))
    · rw [if_pos hc, fsN_s e (show shrB A x n i = true from decide_eq_true hc) 99 (by omega)]
    · rw [if_neg hc]
      exact hn () (fsN_n e (show shrB A x n i = false from decide_eq_false hc))
theorem t_share {p : Nat} {x n : Int32} {ρ : Type} {K : Int32 → Option ρ} (hT : TInv b M A) : L_X10_share_75 M (b + 54) (Int32.ofNat p) x n K 1000000 0 = K (Int32.ofNat (fsN (shrB A x n) 99)) := by
  refine lpx (E := fun y => y = K (Int32.ofNat (fsN (shrB A x n) 99))) (fun f i (_ : Unit) => L_X10_share_75 M (b + 54) (Int32.ofNat p) x n K f (Int32.ofNat i)) 99 (fun i _ => fsN (shrB A x n) i = i) ?_ ?_ 1000000 0 () (by omega) (by omega) rfl
  · intro f _ e
    show L_X10_share_75 M (b + 54) (Int32.ofNat p) x n K (f + 1) (Int32.ofNat 99) = _
    rw [L_X10_share_75, if_pos (by decide), e]
  · intro f i _ hi e hn
    have h99 := i_geF hi (by omega)
    show L_X10_share_75 M (b + 54) (Int32.ofNat p) x n K (f + 1) (Int32.ofNat i) = _
    rw [L_X10_share_75, if_neg (show ¬ (99 : Int32) ≤ Int32.ofNat i from fun q => (h99 ▸ q : False))]
    simp only [↓xgI_u, ↓xpI_u, ↓xaI_u, ↓xsI_u, ↓xrk_u, ↓xrk0_u, ↓xob_v, ↓xmb_v, ↓xth_v, ↓xth_x, ↓jn_u, ↓xlen_u, ↓xaL_u, ↓xsL_u, ↓xbl_0, ↓xbl_1, eq_self, inb_n, inb_d, Sh_PI, Sh_PL, dk_PI, dk_PL, dr_PI, dr_PL, ↓reduceIte, Int32.reduceLE, Int32.reduceLT, Int32.reduceToNatClampNeg, Nat.reduceLT, Nat.reduceLeDiff, Nat.reduceEqDiff, Nat.reduceAdd, Nat.reduceMul, kd54 hT.1.1, i_succ, t_givenBy hT]
    by_cases hc : n < shrS A x (Int32.ofNat (i + 1))
    · rw [if_pos hc, fsN_s e (show shrB A x n i = true from decide_eq_true hc) 99 (by omega)]
    · rw [if_neg hc]
      exact hn () (fsN_n e (show shrB A x n i = false from decide_eq_false hc))
theorem call_share (hC : CInv b w M A) (hT : TInv b M A) (hR : room M 1 6) (x y z : Int32) : agree b M (fun M => m_X0_share M b x y z (b + 561)) (fun M => m_X10_share M (b + 54) x y z) := by
  have o1 := hC.1.ok.1.1
  rcases in_or x (tP (aT A)) with ⟨p, hp, rfl⟩ | hx
  · have hp7 : p < 7 := by omega
    have hp79 : 7 + p < 79 := by omega
    have fail : (inV y 0 (Int32.ofNat (2 ^ tP (aT A) - 1)) = 0 ∨ inV z 0 999 = 0) → agree b M (fun M => m_X0_share M b (Int32.ofNat p) y z (b + 561)) (fun M => m_X10_share M (b + 54) (Int32.ofNat p) y z) := by
      intro hh
      refine agree_mk (A' := aBump A 1) (k := 2) (v := 0) hT (c_err (w := w) (f := fun M => m_X0_share M b (Int32.ofNat p) y z (b + 561)) (v := 0) (x := m_X1_share M b (Int32.ofNat p) y z) (cl := 1) (k := 2) (i := 1) (by decide) ?_ ?_) fun M1 h1 => t_err (g := fun M => m_X10_share M (b + 54) (Int32.ofNat p) y z) (v := 0) (x := 2) (i := 1) h1 (by decide) (by decide) ?_
      · obtain ⟨M1, q, e, h⟩ := c_need0 rfl hC hR
        refine ⟨M1, q, ?_, h⟩
        rcases inV_01 y 0 (Int32.ofNat (2 ^ tP (aT A) - 1)) with g | g
        · unfold inV at g
          by_cases h1 : y < 0
          · simp -implicitDefEqProofs only [m_X1_share, ↓xgI_u, ↓xpI_u, ↓xaI_u, ↓xsI_u, ↓xrk_u, ↓xrk0_u, ↓xob_v, ↓xmb_v, ↓xth_v, ↓xth_x, ↓jn_u, ↓xlen_u, ↓xaL_u, ↓xsL_u, ↓xbl_0, ↓xbl_1, eq_self, inb_n, inb_d, Sh_PI, Sh_PL, dk_PI, dk_PL, dr_PI, dr_PL, ↓reduceIte, Int32.reduceLE, Int32.reduceLT, Int32.reduceToNatClampNeg, Nat.reduceLT, Nat.reduceLeDiff, Nat.reduceEqDiff, Nat.reduceAdd, Nat.reduceMul, kd0 hC.1.1, c_needPT hC hp, h1, if_true, e]
          · rw [if_neg h1] at g
            by_cases h2 : Int32.ofNat (2 ^ tP (aT A) - 1) < y
            · simp -implicitDefEqProofs only [m_X1_share, ↓xgI_u, ↓xpI_u, ↓xaI_u, ↓xsI_u, ↓xrk_u, ↓xrk0_u, ↓xob_v, ↓xmb_v, ↓xth_v, ↓xth_x, ↓jn_u, ↓xlen_u, ↓xaL_u, ↓xsL_u, ↓xbl_0, ↓xbl_1, eq_self, inb_n, inb_d, Sh_PI, Sh_PL, dk_PI, dk_PL, dr_PI, dr_PL, ↓reduceIte, Int32.reduceLE, Int32.reduceLT, Int32.reduceToNatClampNeg, Nat.reduceLT, Nat.reduceLeDiff, Nat.reduceEqDiff, Nat.reduceAdd, Nat.reduceMul, kd0 hC.1.1, c_needPT hC hp, h1, if_false, c_all hC, h2, if_true, e]
            · rw [if_neg h2] at g; exact absurd g (by decide)
        · have g2 := hh.resolve_left (by rw [g]; decide)
          unfold inV at g
          by_cases h1 : y < 0
          · rw [if_pos h1] at g; exact absurd g (by decide)
          · rw [if_neg h1] at g
            by_cases h2 : Int32.ofNat (2 ^ tP (aT A) - 1) < y
            · rw [if_pos h2] at g; exact absurd g (by decide)
            · simp -implicitDefEqProofs only [m_X1_share, ↓xgI_u, ↓xpI_u, ↓xaI_u, ↓xsI_u, ↓xrk_u, ↓xrk0_u, ↓xob_v, ↓xmb_v, ↓xth_v, ↓xth_x, ↓jn_u, ↓xlen_u, ↓xaL_u, ↓xsL_u, ↓xbl_0, ↓xbl_1, eq_self, inb_n, inb_d, Sh_PI, Sh_PL, dk_PI, dk_PL, dr_PI, dr_PL, ↓reduceIte, Int32.reduceLE, Int32.reduceLT, Int32.reduceToNatClampNeg, Nat.reduceLT, Nat.reduceLeDiff, Nat.reduceEqDiff, Nat.reduceAdd, Nat.reduceMul, kd0 hC.1.1, c_needPT hC hp, h1, if_false, c_all hC, h2, c_isIn, g2, if_true, e]
      · intro M1 q e
        simp -implicitDefEqProofs only [m_X0_share, ↓xgI_u, ↓xpI_u, ↓xaI_u, ↓xsI_u, ↓xrk_u, ↓xrk0_u, ↓xob_v, ↓xmb_v, ↓xth_v, ↓xth_x, ↓jn_u, ↓xlen_u, ↓xaL_u, ↓xsL_u, ↓xbl_0, ↓xbl_1, eq_self, inb_n, inb_d, Sh_PI, Sh_PL, dk_PI, dk_PL, dr_PI, dr_PL, ↓reduceIte, Int32.reduceLE, Int32.reduceLT, Int32.reduceToNatClampNeg, Nat.reduceLT, Nat.reduceLeDiff, Nat.reduceEqDiff, Nat.reduceAdd, Nat.reduceMul, kd0 hC.1.1, e, n12, if_false]
      · intro M2 e
        obtain ⟨hT0, f0, z0⟩ := tinv_z h1
        have e' : m_X10_bad (dwPI M1 (b + 54) 44 0) (b + 54) 1 2 1 = some (1, M2) := e
        rcases inV_01 y 0 (Int32.ofNat (2 ^ tP (aT A) - 1)) with g | g
        · simp -implicitDefEqProofs only [m_X10_share, ↓gp0_2, ↓gp0_3, ↓gp0_4, ↓gp0_5, ↓gp0_6, ↓gp0_7, ↓gp0_8, ↓gp0_9, ↓gp0_10, ↓gp0_18, ↓gp0_19, ↓gp0_20, ↓gp0_22, ↓gp23_43, ↓gp23_32, ↓gp23_33, ↓gp23_34, ↓gp23_35, ↓gp23_36, ↓gp29_43, ↓gp29_32, ↓gp29_33, ↓gp29_34, ↓gp29_35, ↓gp29_36, ↓gp54_53, ↓gp54_54, ↓gp54_55, ↓gp54_56, ↓gp54_57, ↓gp54_58, ↓gp54_59, ↓gp54_60, ↓gp54_61, ↓gp54_62, ↓gp54_65, ↓gp54_66, ↓gp54_67, ↓gp54_68, ↓gp54_69, ↓gp54_70, ↓gp54_71, ↓gp54_73, ↓gp54_74, ↓gp54_75, ↓gp54_76, ↓gp54_84, ↓gp54_85, ↓gp54_87, ↓gp54_88, ↓xr59, kr59, ↓xr67, kr67, ↓xr75, kr75, ↓xr82, kr82, ↓xr89, kr89, ↓xr102, kr102, ↓xr115, kr115, ↓xr276, kr276, ↓xr437, kr437, ↓xr444, kr444, ↓xr453, kr453, ↓xr536, kr536, ↓xr553, kr553, hs0, hw0, hs1, hw1, hs2, hw2, hs3, hw3, hs4, hw4, hs5, hw5, hs6, hw6, hs7, hw7, hs8, hw8, hs9, hw9, hs10, hw10, hs11, hw11, hs12, hw12, hs13, hw13, hs14, hw14, hs15, hw15, hs16, hw16, hs17, hw17, hs18, hw18, hs19, hw19, hs20, hw20, hs21, hw21, hs22, hw22, hs23, hw23, hs25, hw25, hs26, hw26, hs27, hw27, hs28, hw28, hs9b, hw9b, hs10b, hw10b, kd0, kd20, kd21, kd22, kd23, kd24, kd25, kd26, kd27, kd28, kd29, kd30, kd31, kd32, kd33, kd34, kd35, kd36, kd37, kd38, kd39, kd40, kd41, kd42, kd54, kd55, kd56, kd57, kd58, kd59, kd67, kd75, kd82, kd89, kd102, kd115, kd276, kd437, kd444, kd451, kd452, kd453, kd534, kd535, kd536, kd553, kd557, kd558, kd559, kd560, kd561, ↓xgI_u, ↓xpI_u, ↓xaI_u, ↓xsI_u, ↓xrk_u, ↓xrk0_u, ↓xob_v, ↓xmb_v, ↓xth_v, ↓xth_x, ↓jn_u, ↓xlen_u, ↓xaL_u, ↓xsL_u, ↓xbl_0, ↓xbl_1, eq_self, inb_n, inb_d, Sh_PI, Sh_PL, dk_PI, dk_PL, dr_PI, dr_PL, ↓reduceIte, Int32.reduceLE, Int32.reduceLT, Int32.reduceToNatClampNeg, Nat.reduceLT, Nat.reduceLeDiff, Nat.reduceEqDiff, Nat.reduceAdd, Nat.reduceMul, h1.1.1, t_isP hT0.1.1 hT0.1.2.1, t_inT hp (by omega), e10, t_bad0 hT0.1.1 z0, hT0.1.2.1.1, all_n _ (show tP (aT A) < 8 by omega), t_in, g, e']
        · have g2 := hh.resolve_left (by rw [g]; decide)
          simp -implicitDefEqProofs only [m_X10_share, ↓gp0_2, ↓gp0_3, ↓gp0_4, ↓gp0_5, ↓gp0_6, ↓gp0_7, ↓gp0_8, ↓gp0_9, ↓gp0_10, ↓gp0_18, ↓gp0_19, ↓gp0_20, ↓gp0_22, ↓gp23_43, ↓gp23_32, ↓gp23_33, ↓gp23_34, ↓gp23_35, ↓gp23_36, ↓gp29_43, ↓gp29_32, ↓gp29_33, ↓gp29_34, ↓gp29_35, ↓gp29_36, ↓gp54_53, ↓gp54_54, ↓gp54_55, ↓gp54_56, ↓gp54_57, ↓gp54_58, ↓gp54_59, ↓gp54_60, ↓gp54_61, ↓gp54_62, ↓gp54_65, ↓gp54_66, ↓gp54_67, ↓gp54_68, ↓gp54_69, ↓gp54_70, ↓gp54_71, ↓gp54_73, ↓gp54_74, ↓gp54_75, ↓gp54_76, ↓gp54_84, ↓gp54_85, ↓gp54_87, ↓gp54_88, ↓xr59, kr59, ↓xr67, kr67, ↓xr75, kr75, ↓xr82, kr82, ↓xr89, kr89, ↓xr102, kr102, ↓xr115, kr115, ↓xr276, kr276, ↓xr437, kr437, ↓xr444, kr444, ↓xr453, kr453, ↓xr536, kr536, ↓xr553, kr553, hs0, hw0, hs1, hw1, hs2, hw2, hs3, hw3, hs4, hw4, hs5, hw5, hs6, hw6, hs7, hw7, hs8, hw8, hs9, hw9, hs10, hw10, hs11, hw11, hs12, hw12, hs13, hw13, hs14, hw14, hs15, hw15, hs16, hw16, hs17, hw17, hs18, hw18, hs19, hw19, hs20, hw20, hs21, hw21, hs22, hw22, hs23, hw23, hs25, hw25, hs26, hw26, hs27, hw27, hs28, hw28, hs9b, hw9b, hs10b, hw10b, kd0, kd20, kd21, kd22, kd23, kd24, kd25, kd26, kd27, kd28, kd29, kd30, kd31, kd32, kd33, kd34, kd35, kd36, kd37, kd38, kd39, kd40, kd41, kd42, kd54, kd55, kd56, kd57, kd58, kd59, kd67, kd75, kd82, kd89, kd102, kd115, kd276, kd437, kd444, kd451, kd452, kd453, kd534, kd535, kd536, kd553, kd557, kd558, kd559, kd560, kd561, ↓xgI_u, ↓xpI_u, ↓xaI_u, ↓xsI_u, ↓xrk_u, ↓xrk0_u, ↓xob_v, ↓xmb_v, ↓xth_v, ↓xth_x, ↓jn_u, ↓xlen_u, ↓xaL_u, ↓xsL_u, ↓xbl_0, ↓xbl_1, eq_self, inb_n, inb_d, Sh_PI, Sh_PL, dk_PI, dk_PL, dr_PI, dr_PL, ↓reduceIte, Int32.reduceLE, Int32.reduceLT, Int32.reduceToNatClampNeg, Nat.reduceLT, Nat.reduceLeDiff, Nat.reduceEqDiff, Nat.reduceAdd, Nat.reduceMul, h1.1.1, t_isP hT0.1.1 hT0.1.2.1, t_inT hp (by omega), e10, t_bad0 hT0.1.1 z0, hT0.1.2.1.1, all_n _ (show tP (aT A) < 8 by omega), t_in, g, g2, e']
    rcases inV_01 y 0 (Int32.ofNat (2 ^ tP (aT A) - 1)) with g0 | g0
    · exact fail (Or.inl g0)
    rcases inV_01 z 0 999 with g1 | g1
    · exact fail (Or.inr g1)
    refine agree_mk (A' := A) (k := 0) (v := shrV A p y z) hT (c_okk (f := fun M => m_X0_share M b (Int32.ofNat p) y z (b + 561)) (x := m_X1_share M b (Int32.ofNat p) y z) hC ⟨M, ?_, fr.refl M⟩ fun M1 e k => by simp -implicitDefEqProofs only [m_X0_share, ↓xgI_u, ↓xpI_u, ↓xaI_u, ↓xsI_u, ↓xrk_u, ↓xrk0_u, ↓xob_v, ↓xmb_v, ↓xth_v, ↓xth_x, ↓jn_u, ↓xlen_u, ↓xaL_u, ↓xsL_u, ↓xbl_0, ↓xbl_1, eq_self, inb_n, inb_d, Sh_PI, Sh_PL, dk_PI, dk_PL, dr_PI, dr_PL, ↓reduceIte, Int32.reduceLE, Int32.reduceLT, Int32.reduceToNatClampNeg, Nat.reduceLT, Nat.reduceLeDiff, Nat.reduceEqDiff, Nat.reduceAdd, Nat.reduceMul, kd0 hC.1.1, e, k]) fun M1 h1 => t_okk (g := fun M => m_X10_share M (b + 54) (Int32.ofNat p) y z) h1 ⟨_, ?_, fr.refl _⟩
    · have r2 := hC.1.2.2.2.2.1.2.2.1 p hp7
      have g0' := g0
      unfold inV at g0'
      have h1 : ¬ y < 0 := fun q => by rw [if_pos q] at g0'; exact absurd g0' (by decide)
      rw [if_neg h1] at g0'
      have h2 : ¬ Int32.ofNat (2 ^ tP (aT A) - 1) < y := fun q => by rw [if_pos q] at g0'; exact absurd g0' (by decide)
      have need : m_X1_need M b 1 = some (.inl (), M) := c_need1 rfl
      simp -implicitDefEqProofs only [m_X1_share, ↓xgI_u, ↓xpI_u, ↓xaI_u, ↓xsI_u, ↓xrk_u, ↓xrk0_u, ↓xob_v, ↓xmb_v, ↓xth_v, ↓xth_x, ↓jn_u, ↓xlen_u, ↓xaL_u, ↓xsL_u, ↓xbl_0, ↓xbl_1, eq_self, inb_n, inb_d, Sh_PI, Sh_PL, dk_PI, dk_PL, dr_PI, dr_PL, ↓reduceIte, Int32.reduceLE, Int32.reduceLT, Int32.reduceToNatClampNeg, Nat.reduceLT, Nat.reduceLeDiff, Nat.reduceEqDiff, Nat.reduceAdd, Nat.reduceMul, kd0 hC.1.1, c_needPT hC hp, h1, if_false, c_all hC, h2, c_isIn, g1, e10, need, c_share hC]
      unfold shrV m_X1_has
      by_cases hc : (y >>> (Int32.ofNat p &&& 31)) &&& 1 = 1
      · simp only [hc, if_true, ↓gp0_2, ↓gp0_3, ↓gp0_4, ↓gp0_5, ↓gp0_6, ↓gp0_7, ↓gp0_8, ↓gp0_9, ↓gp0_10, ↓gp0_18, ↓gp0_19, ↓gp0_20, ↓gp0_22, ↓gp23_43, ↓gp23_32, ↓gp23_33, ↓gp23_34, ↓gp23_35, ↓gp23_36, ↓gp29_43, ↓gp29_32, ↓gp29_33, ↓gp29_34, ↓gp29_35, ↓gp29_36, ↓gp54_53, ↓gp54_54, ↓gp54_55, ↓gp54_56, ↓gp54_57, ↓gp54_58, ↓gp54_59, ↓gp54_60, ↓gp54_61, ↓gp54_62, ↓gp54_65, ↓gp54_66, ↓gp54_67, ↓gp54_68, ↓gp54_69, ↓gp54_70, ↓gp54_71, ↓gp54_73, ↓gp54_74, ↓gp54_75, ↓gp54_76, ↓gp54_84, ↓gp54_85, ↓gp54_87, ↓gp54_88, ↓xr59, kr59, ↓xr67, kr67, ↓xr75, kr75, ↓xr82, kr82, ↓xr89, kr89, ↓xr102, kr102, ↓xr115, kr115, ↓xr276, kr276, ↓xr437, kr437, ↓xr444, kr444, ↓xr453, kr453, ↓xr536, kr536, ↓xr553, kr553, hs0, hw0, hs1, hw1, hs2, hw2, hs3, hw3, hs4, hw4, hs5, hw5, hs6, hw6, hs7, hw7, hs8, hw8, hs9, hw9, hs10, hw10, hs11, hw11, hs12, hw12, hs13, hw13, hs14, hw14, hs15, hw15, hs16, hw16, hs17, hw17, hs18, hw18, hs19, hw19, hs20, hw20, hs21, hw21, hs22, hw22, hs23, hw23, hs25, hw25, hs26, hw26, hs27, hw27, hs28, hw28, hs9b, hw9b, hs10b, hw10b, kd0, kd20, kd21, kd22, kd23, kd24, kd25, kd26, kd27, kd28, kd29, kd30, kd31, kd32, kd33, kd34, kd35, kd36, kd37, kd38, kd39, kd40, kd41, kd42, kd54, kd55, kd56, kd57, kd58, kd59, kd67, kd75, kd82, kd89, kd102, kd115, kd276, kd437, kd444, kd451, kd452, kd453, kd534, kd535, kd536, kd553, kd557, kd558, kd559, kd560, kd561, ↓xgI_u, ↓xpI_u, ↓xaI_u, ↓xsI_u, ↓xrk_u, ↓xrk0_u, ↓xob_v, ↓xmb_v, ↓xth_v, ↓xth_x, ↓jn_u, ↓xlen_u, ↓xaL_u, ↓xsL_u, ↓xbl_0, ↓xbl_1, eq_self, inb_n, inb_d, Sh_PI, Sh_PL, dk_PI, dk_PL, dr_PI, dr_PL, ↓reduceIte, Int32.reduceLE, Int32.reduceLT, Int32.reduceToNatClampNeg, Nat.reduceLT, Nat.reduceLeDiff, Nat.reduceEqDiff, Nat.reduceAdd, Nat.reduceMul, e10, hC.1.1, hp7, i_nat (show p < 2147483648 by omega), r2, min_less, less_comm (aNow A (7 + p))]
      · simp only [hc, if_false, ↓xgI_u, ↓xpI_u, ↓xaI_u, ↓xsI_u, ↓xrk_u, ↓xrk0_u, ↓xob_v, ↓xmb_v, ↓xth_v, ↓xth_x, ↓jn_u, ↓xlen_u, ↓xaL_u, ↓xsL_u, ↓xbl_0, ↓xbl_1, eq_self, inb_n, inb_d, Sh_PI, Sh_PL, dk_PI, dk_PL, dr_PI, dr_PL, ↓reduceIte, Int32.reduceLE, Int32.reduceLT, Int32.reduceToNatClampNeg, Nat.reduceLT, Nat.reduceLeDiff, Nat.reduceEqDiff, Nat.reduceAdd, Nat.reduceMul]
    · obtain ⟨hT0, f0, z0⟩ := tinv_z h1
      simp -implicitDefEqProofs only [m_X10_share, ↓gp0_2, ↓gp0_3, ↓gp0_4, ↓gp0_5, ↓gp0_6, ↓gp0_7, ↓gp0_8, ↓gp0_9, ↓gp0_10, ↓gp0_18, ↓gp0_19, ↓gp0_20, ↓gp0_22, ↓gp23_43, ↓gp23_32, ↓gp23_33, ↓gp23_34, ↓gp23_35, ↓gp23_36, ↓gp29_43, ↓gp29_32, ↓gp29_33, ↓gp29_34, ↓gp29_35, ↓gp29_36, ↓gp54_53, ↓gp54_54, ↓gp54_55, ↓gp54_56, ↓gp54_57, ↓gp54_58, ↓gp54_59, ↓gp54_60, ↓gp54_61, ↓gp54_62, ↓gp54_65, ↓gp54_66, ↓gp54_67, ↓gp54_68, ↓gp54_69, ↓gp54_70, ↓gp54_71, ↓gp54_73, ↓gp54_74, ↓gp54_75, ↓gp54_76, ↓gp54_84, ↓gp54_85, ↓gp54_87, ↓gp54_88, ↓xr59, kr59, ↓xr67, kr67, ↓xr75, kr75, ↓xr82, kr82, ↓xr89, kr89, ↓xr102, kr102, ↓xr115, kr115, ↓xr276, kr276, ↓xr437, kr437, ↓xr444, kr444, ↓xr453, kr453, ↓xr536, kr536, ↓xr553, kr553, hs0, hw0, hs1, hw1, hs2, hw2, hs3, hw3, hs4, hw4, hs5, hw5, hs6, hw6, hs7, hw7, hs8, hw8, hs9, hw9, hs10, hw10, hs11, hw11, hs12, hw12, hs13, hw13, hs14, hw14, hs15, hw15, hs16, hw16, hs17, hw17, hs18, hw18, hs19, hw19, hs20, hw20, hs21, hw21, hs22, hw22, hs23, hw23, hs25, hw25, hs26, hw26, hs27, hw27, hs28, hw28, hs9b, hw9b, hs10b, hw10b, kd0, kd20, kd21, kd22, kd23, kd24, kd25, kd26, kd27, kd28, kd29, kd30, kd31, kd32, kd33, kd34, kd35, kd36, kd37, kd38, kd39, kd40, kd41, kd42, kd54, kd55, kd56, kd57, kd58, kd59, kd67, kd75, kd82, kd89, kd102, kd115, kd276, kd437, kd444, kd451, kd452, kd453, kd534, kd535, kd536, kd553, kd557, kd558, kd559, kd560, kd561, ↓xgI_u, ↓xpI_u, ↓xaI_u, ↓xsI_u, ↓xrk_u, ↓xrk0_u, ↓xob_v, ↓xmb_v, ↓xth_v, ↓xth_x, ↓jn_u, ↓xlen_u, ↓xaL_u, ↓xsL_u, ↓xbl_0, ↓xbl_1, eq_self, inb_n, inb_d, Sh_PI, Sh_PL, dk_PI, dk_PL, dr_PI, dr_PL, ↓reduceIte, Int32.reduceLE, Int32.reduceLT, Int32.reduceToNatClampNeg, Nat.reduceLT, Nat.reduceLeDiff, Nat.reduceEqDiff, Nat.reduceAdd, Nat.reduceMul, h1.1.1, t_isP hT0.1.1 hT0.1.2.1, t_inT hp (by omega), e10, t_bad0 hT0.1.1 z0, hT0.1.2.1.1, all_n _ (show tP (aT A) < 8 by omega), t_in, g0, g1, t_share hT0]
      unfold shrV m_X10_has
      by_cases hc : (y >>> (Int32.ofNat p &&& 31)) &&& 1 = 1
      · simp only [hc, if_true, ↓gp0_2, ↓gp0_3, ↓gp0_4, ↓gp0_5, ↓gp0_6, ↓gp0_7, ↓gp0_8, ↓gp0_9, ↓gp0_10, ↓gp0_18, ↓gp0_19, ↓gp0_20, ↓gp0_22, ↓gp23_43, ↓gp23_32, ↓gp23_33, ↓gp23_34, ↓gp23_35, ↓gp23_36, ↓gp29_43, ↓gp29_32, ↓gp29_33, ↓gp29_34, ↓gp29_35, ↓gp29_36, ↓gp54_53, ↓gp54_54, ↓gp54_55, ↓gp54_56, ↓gp54_57, ↓gp54_58, ↓gp54_59, ↓gp54_60, ↓gp54_61, ↓gp54_62, ↓gp54_65, ↓gp54_66, ↓gp54_67, ↓gp54_68, ↓gp54_69, ↓gp54_70, ↓gp54_71, ↓gp54_73, ↓gp54_74, ↓gp54_75, ↓gp54_76, ↓gp54_84, ↓gp54_85, ↓gp54_87, ↓gp54_88, ↓xr59, kr59, ↓xr67, kr67, ↓xr75, kr75, ↓xr82, kr82, ↓xr89, kr89, ↓xr102, kr102, ↓xr115, kr115, ↓xr276, kr276, ↓xr437, kr437, ↓xr444, kr444, ↓xr453, kr453, ↓xr536, kr536, ↓xr553, kr553, hs0, hw0, hs1, hw1, hs2, hw2, hs3, hw3, hs4, hw4, hs5, hw5, hs6, hw6, hs7, hw7, hs8, hw8, hs9, hw9, hs10, hw10, hs11, hw11, hs12, hw12, hs13, hw13, hs14, hw14, hs15, hw15, hs16, hw16, hs17, hw17, hs18, hw18, hs19, hw19, hs20, hw20, hs21, hw21, hs22, hw22, hs23, hw23, hs25, hw25, hs26, hw26, hs27, hw27, hs28, hw28, hs9b, hw9b, hs10b, hw10b, kd0, kd20, kd21, kd22, kd23, kd24, kd25, kd26, kd27, kd28, kd29, kd30, kd31, kd32, kd33, kd34, kd35, kd36, kd37, kd38, kd39, kd40, kd41, kd42, kd54, kd55, kd56, kd57, kd58, kd59, kd67, kd75, kd82, kd89, kd102, kd115, kd276, kd437, kd444, kd451, kd452, kd453, kd534, kd535, kd536, kd553, kd557, kd558, kd559, kd560, kd561, ↓xgI_u, ↓xpI_u, ↓xaI_u, ↓xsI_u, ↓xrk_u, ↓xrk0_u, ↓xob_v, ↓xmb_v, ↓xth_v, ↓xth_x, ↓jn_u, ↓xlen_u, ↓xaL_u, ↓xsL_u, ↓xbl_0, ↓xbl_1, eq_self, inb_n, inb_d, Sh_PI, Sh_PL, dk_PI, dk_PL, dr_PI, dr_PL, ↓reduceIte, Int32.reduceLE, Int32.reduceLT, Int32.reduceToNatClampNeg, Nat.reduceLT, Nat.reduceLeDiff, Nat.reduceEqDiff, Nat.reduceAdd, Nat.reduceMul, e10, h1.1.1, x_c7, hp79, i_nat (show 7 + p < 2147483648 by omega), hT0.1.2.2.2.2.1, t_less]
      · simp only [hc, if_false, ↓xgI_u, ↓xpI_u, ↓xaI_u, ↓xsI_u, ↓xrk_u, ↓xrk0_u, ↓xob_v, ↓xmb_v, ↓xth_v, ↓xth_x, ↓jn_u, ↓xlen_u, ↓xaL_u, ↓xsL_u, ↓xbl_0, ↓xbl_1, eq_self, inb_n, inb_d, Sh_PI, Sh_PL, dk_PI, dk_PL, dr_PI, dr_PL, ↓reduceIte, Int32.reduceLE, Int32.reduceLT, Int32.reduceToNatClampNeg, Nat.reduceLT, Nat.reduceLeDiff, Nat.reduceEqDiff, Nat.reduceAdd, Nat.reduceMul]
  · refine agree_mk (A' := aBump A 0) (k := 1) (v := 0) hT (c_err (w := w) (f := fun M => m_X0_share M b x y z (b + 561)) (v := 0) (x := m_X1_share M b x y z) (cl := 2) (k := 1) (i := 0) (by decide) ?_ ?_) fun M1 h1 => t_err (g := fun M => m_X10_share M (b + 54) x y z) (v := 0) (x := 1) (i := 0) h1 (by decide) (by decide) ?_
    · obtain ⟨M1, q, e, h⟩ := c_needPF hC hx hR
      exact ⟨M1, q, by simp -implicitDefEqProofs only [m_X1_share, ↓xgI_u, ↓xpI_u, ↓xaI_u, ↓xsI_u, ↓xrk_u, ↓xrk0_u, ↓xob_v, ↓xmb_v, ↓xth_v, ↓xth_x, ↓jn_u, ↓xlen_u, ↓xaL_u, ↓xsL_u, ↓xbl_0, ↓xbl_1, eq_self, inb_n, inb_d, Sh_PI, Sh_PL, dk_PI, dk_PL, dr_PI, dr_PL, ↓reduceIte, Int32.reduceLE, Int32.reduceLT, Int32.reduceToNatClampNeg, Nat.reduceLT, Nat.reduceLeDiff, Nat.reduceEqDiff, Nat.reduceAdd, Nat.reduceMul, kd0 hC.1.1, e], h⟩
    · intro M1 q e
      simp -implicitDefEqProofs only [m_X0_share, ↓xgI_u, ↓xpI_u, ↓xaI_u, ↓xsI_u, ↓xrk_u, ↓xrk0_u, ↓xob_v, ↓xmb_v, ↓xth_v, ↓xth_x, ↓jn_u, ↓xlen_u, ↓xaL_u, ↓xsL_u, ↓xbl_0, ↓xbl_1, eq_self, inb_n, inb_d, Sh_PI, Sh_PL, dk_PI, dk_PL, dr_PI, dr_PL, ↓reduceIte, Int32.reduceLE, Int32.reduceLT, Int32.reduceToNatClampNeg, Nat.reduceLT, Nat.reduceLeDiff, Nat.reduceEqDiff, Nat.reduceAdd, Nat.reduceMul, kd0 hC.1.1, e]
    · intro M2 e
      obtain ⟨hT0, f0, z0⟩ := tinv_z h1
      have e' : m_X10_bad (dwPI M1 (b + 54) 44 0) (b + 54) 1 1 0 = some (1, M2) := e
      simp -implicitDefEqProofs only [m_X10_share, ↓gp0_2, ↓gp0_3, ↓gp0_4, ↓gp0_5, ↓gp0_6, ↓gp0_7, ↓gp0_8, ↓gp0_9, ↓gp0_10, ↓gp0_18, ↓gp0_19, ↓gp0_20, ↓gp0_22, ↓gp23_43, ↓gp23_32, ↓gp23_33, ↓gp23_34, ↓gp23_35, ↓gp23_36, ↓gp29_43, ↓gp29_32, ↓gp29_33, ↓gp29_34, ↓gp29_35, ↓gp29_36, ↓gp54_53, ↓gp54_54, ↓gp54_55, ↓gp54_56, ↓gp54_57, ↓gp54_58, ↓gp54_59, ↓gp54_60, ↓gp54_61, ↓gp54_62, ↓gp54_65, ↓gp54_66, ↓gp54_67, ↓gp54_68, ↓gp54_69, ↓gp54_70, ↓gp54_71, ↓gp54_73, ↓gp54_74, ↓gp54_75, ↓gp54_76, ↓gp54_84, ↓gp54_85, ↓gp54_87, ↓gp54_88, ↓xr59, kr59, ↓xr67, kr67, ↓xr75, kr75, ↓xr82, kr82, ↓xr89, kr89, ↓xr102, kr102, ↓xr115, kr115, ↓xr276, kr276, ↓xr437, kr437, ↓xr444, kr444, ↓xr453, kr453, ↓xr536, kr536, ↓xr553, kr553, hs0, hw0, hs1, hw1, hs2, hw2, hs3, hw3, hs4, hw4, hs5, hw5, hs6, hw6, hs7, hw7, hs8, hw8, hs9, hw9, hs10, hw10, hs11, hw11, hs12, hw12, hs13, hw13, hs14, hw14, hs15, hw15, hs16, hw16, hs17, hw17, hs18, hw18, hs19, hw19, hs20, hw20, hs21, hw21, hs22, hw22, hs23, hw23, hs25, hw25, hs26, hw26, hs27, hw27, hs28, hw28, hs9b, hw9b, hs10b, hw10b, kd0, kd20, kd21, kd22, kd23, kd24, kd25, kd26, kd27, kd28, kd29, kd30, kd31, kd32, kd33, kd34, kd35, kd36, kd37, kd38, kd39, kd40, kd41, kd42, kd54, kd55, kd56, kd57, kd58, kd59, kd67, kd75, kd82, kd89, kd102, kd115, kd276, kd437, kd444, kd451, kd452, kd453, kd534, kd535, kd536, kd553, kd557, kd558, kd559, kd560, kd561, ↓xgI_u, ↓xpI_u, ↓xaI_u, ↓xsI_u, ↓xrk_u, ↓xrk0_u, ↓xob_v, ↓xmb_v, ↓xth_v, ↓xth_x, ↓jn_u, ↓xlen_u, ↓xaL_u, ↓xsL_u, ↓xbl_0, ↓xbl_1, eq_self, inb_n, inb_d, Sh_PI, Sh_PL, dk_PI, dk_PL, dr_PI, dr_PL, ↓reduceIte, Int32.reduceLE, Int32.reduceLT, Int32.reduceToNatClampNeg, Nat.reduceLT, Nat.reduceLeDiff, Nat.reduceEqDiff, Nat.reduceAdd, Nat.reduceMul, h1.1.1, t_isP hT0.1.1 hT0.1.2.1, t_inF hx (by omega), e', e10]
end CALL
