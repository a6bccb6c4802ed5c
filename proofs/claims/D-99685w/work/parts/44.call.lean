/-! rows stay as they may be -/
theorem i_sub {a c : Nat} (h : c ≤ a) : Int32.ofNat a - Int32.ofNat c = Int32.ofNat (a - c) := (Int32.ofNat_sub a c h).symm
theorem less_n {a c : Nat} (ha : a < 2147483648) (hc : c < 2147483648) : lessS (Int32.ofNat a) (Int32.ofNat c) = Int32.ofNat (min a c) := by
  unfold lessS
  by_cases h : c ≤ a
  · rw [if_pos ((i_le hc ha).mpr h), Nat.min_eq_right h]
  · rw [if_neg (fun q => h ((i_le hc ha).mp q)), Nat.min_eq_left (by omega)]
theorem nat_of {x : Int32} {n : Nat} (h0 : 0 ≤ x) (h1 : x ≤ Int32.ofNat n) (hn : n < 2147483648) : ∃ k, k ≤ n ∧ x = Int32.ofNat k := by
  have hx := Int32.ofNat_toNatClampNeg x h0
  have hl : x.toNatClampNeg < 2147483648 := Int32.toNatClampNeg_lt x
  rw [← hx, i_le hl hn] at h1
  exact ⟨_, h1, hx.symm⟩
theorem n_bd {k n : Nat} (h : k ≤ n) (hn : n < 2147483648) : 0 ≤ Int32.ofNat k ∧ Int32.ofNat k ≤ Int32.ofNat n := by
  constructor
  · rw [← i_zero, i_le (by omega) (by omega)]; omega
  · rw [i_le (by omega) hn]; exact h
theorem rowOK_dayP {T : dvT} (hO : tOK T) {p : Nat} {r : Nat → Int32} (hp : p < tP T) (h : rowOK T r) : rowOK T (dayP T p r) := by
  have o1 := hO.1
  obtain ⟨d, hd, ed⟩ := nat_of (n := 9) hO.2.2.2.2.2.2.1 hO.2.2.2.2.2.2.2.1 (by omega)
  obtain ⟨g, hg, eg⟩ := nat_of (n := 999) h.2.1 h.2.2 (by omega)
  obtain ⟨t, ht, et⟩ := nat_of (n := 99) (h.1 p hp).2.1 (h.1 p hp).2.2 (by omega)
  have eh : drkS T r = Int32.ofNat (min d g) := by unfold drkS; rw [ed, eg, less_n (by omega) (by omega)]
  refine ⟨fun q hq => ?_, ?_⟩
  · by_cases e : q = p
    · subst e
      have e1 : dayP T q r (14 + q) = 0 := by unfold dayP; rw [rset_eq]
      have e2 : dayP T q r (7 + q) = if drkS T r = tdr T then 0 else lessS 99 (r (7 + q) + tdr T - drkS T r) := by
        unfold dayP
        rw [rset_ne (by omega), rset_ne (by omega), rset_eq, rset_ne (by omega)]
      rw [e1, e2]
      refine ⟨Or.inl rfl, ?_⟩
      by_cases hc : drkS T r = tdr T
      · rw [if_pos hc]; exact n_bd (k := 0) (n := 99) (by omega) (by omega)
      · rw [if_neg hc, eh, ed, et, i_add, i_sub (by omega), show (99 : Int32) = Int32.ofNat 99 from rfl, less_n (by omega) (by omega)]
        exact n_bd (n := 99) (by omega) (by omega)
    · rw [dayP_o (by omega) (by omega) (by omega) (by omega), dayP_o (by omega) (by omega) (by omega) (by omega)]
      exact h.1 q hq
  · have e3 : dayP T p r 77 = r 77 - drkS T r := by
      unfold dayP
      rw [rset_ne (by omega), rset_ne (by omega), rset_ne (by omega), rset_eq]
    rw [e3, eh, eg, i_sub (by omega)]
    exact n_bd (n := 999) (by omega) (by omega)
theorem rowOK_day {T : dvT} (hO : tOK T) {r : Nat → Int32} (h : rowOK T r) : rowOK T (dayS T r) := by
  have o1 := hO.1
  have : ∀ n, n ≤ tP T → rowOK T (itr (dayP T) r n) := by
    intro n
    induction n with
    | zero => intro _; exact h
    | succ n ih => intro hn; exact rowOK_dayP hO (by omega) (ih (by omega))
  have h2 := this _ (Nat.le_refl _)
  unfold dayS
  refine ⟨fun q hq => ?_, ?_⟩
  · rw [rset_ne (by omega), rset_ne (by omega)]; exact h2.1 q hq
  · rw [rset_ne (by omega)]; exact h2.2
theorem rowOK_tel {T : dvT} {lw : (Nat → Int32) → Int32} (hO : tOK T) {j p : Nat} {r : Nat → Int32} (hj : j < tJ T) (hp : p < tP T) (h : rowOK T r) : rowOK T (telS T lw j p r) := by
  have o1 := hO.1
  have o2 := hO.2.1
  unfold telS
  by_cases hc : r (14 + p) = 1
  · rw [if_pos hc]; exact h
  · rw [if_neg hc]
    obtain ⟨n, hn, en⟩ := lgh_b T lw r j p
    obtain ⟨g, hg, eg⟩ := nat_of (n := 999) h.2.1 h.2.2 (by omega)
    obtain ⟨d, hd, ed⟩ := nat_of (n := 3) (hO.2.2.2.1 p hp).1 (hO.2.2.2.1 p hp).2.1 (by omega)
    refine ⟨fun q hq => ?_, ?_⟩
    · rw [rset_ne (show 7 + q ≠ 35 + 7 * j + p by omega), rset_ne (show 7 + q ≠ 28 + p by omega), rset_ne (show 7 + q ≠ 21 + p by omega), rset_ne (show 7 + q ≠ 14 + p by omega), rset_ne (show 7 + q ≠ 77 by omega), rset_ne (show 14 + q ≠ 35 + 7 * j + p by omega), rset_ne (show 14 + q ≠ 28 + p by omega), rset_ne (show 14 + q ≠ 21 + p by omega)]
      refine ⟨?_, (h.1 q hq).2⟩
      by_cases e : q = p
      · subst e; rw [rset_eq]; exact Or.inr rfl
      · rw [rset_ne (by omega), rset_ne (by omega)]; exact (h.1 q hq).1
    · rw [rset_ne (by omega), rset_ne (by omega), rset_ne (by omega), rset_ne (by omega), rset_eq, en, ed, eg, i_mul, i_add, show (999 : Int32) = Int32.ofNat 999 from rfl]
      have hm : n * d ≤ 40 * 3 := Nat.mul_le_mul hn hd
      rw [less_n (by omega) (by omega)]
      exact n_bd (n := 999) (by omega) (by omega)
theorem rowOK_grv {T : dvT} (hO : tOK T) {p : Nat} {n : Int32} {r : Nat → Int32} (hp : p < tP T) (h : rowOK T r) : rowOK T (grvS p n r) := by
  have o1 := hO.1
  unfold grvS
  by_cases hc : r p < n
  · rw [if_pos hc]
    refine ⟨fun q hq => ?_, ?_⟩
    · rw [rset_ne (by omega), rset_ne (by omega)]; exact h.1 q hq
    · rw [rset_ne (by omega)]; exact h.2
  · rw [if_neg hc]; exact h
/-! lots -/
def ltS (s : Int32) : Int32 := s * 1103515245 + 12345
def drwV (s m : Int32) : Int32 := ((s >>> ((16 : Int32) &&& 31)) &&& (32767 : Int32)) - ((s >>> ((16 : Int32) &&& 31)) &&& (32767 : Int32)) / m * m
theorem and_n (x : Int32) : ∃ k, k ≤ 32767 ∧ x &&& 32767 = Int32.ofNat k := by
  refine ⟨x.toBitVec.toNat &&& 32767, Nat.and_le_right, ?_⟩
  rw [← i_and]
  congr 1
  exact (Int32.ofNat_bitVecToNat x.toBitVec).symm ▸ rfl
theorem drw_n (s : Int32) {m : Nat} (hm : 0 < m) (hm2 : m < 2147483648) : ∃ k, k < m ∧ drwV s (Int32.ofNat m) = Int32.ofNat k := by
  obtain ⟨k, hk, e⟩ := and_n (s >>> ((16 : Int32) &&& 31))
  refine ⟨k % m, Nat.mod_lt _ hm, ?_⟩
  unfold drwV
  rw [e, ← Int32.ofNat_div (by omega) (by omega), i_mul, i_sub (Nat.div_mul_le_self k m)]
  congr 1
  have := Nat.mod_add_div k m
  rw [Nat.mul_comm] at this
  omega
def drwN (s : Int32) (m : Nat) : Nat := (drwV s (Int32.ofNat m)).toNatClampNeg
theorem drw_e (s : Int32) {m : Nat} (hm : 0 < m) (hm2 : m < 2147483648) : drwV s (Int32.ofNat m) = Int32.ofNat (drwN s m) ∧ drwN s m < m := by
  obtain ⟨k, hk, e⟩ := drw_n s hm hm2
  unfold drwN
  rw [e, i_nat (by omega)]
  exact ⟨rfl, hk⟩
/-- a day of a year: the row, the lots -/
def yrP (T : dvT) (lw : (Nat → Int32) → Int32) (q : Int32) (x : (Nat → Int32) × Int32) : (Nat → Int32) × Int32 :=
  if tJ T = 0 ∨ tP T = 0 then (dayS T x.1, x.2) else
    (dayS T (if q ≤ drwV (ltS (ltS (ltS x.2))) 16 then telS T lw (drwN (ltS x.2) (tJ T)) (drwN (ltS (ltS x.2)) (tP T)) x.1 else grvS (drwN (ltS (ltS x.2)) (tP T)) 3 (telS T lw (drwN (ltS x.2) (tJ T)) (drwN (ltS (ltS x.2)) (tP T)) x.1)), ltS (ltS (ltS x.2)))
def yrS (T : dvT) (lw : (Nat → Int32) → Int32) (q seed : Int32) (r : Nat → Int32) (n : Nat) : (Nat → Int32) × Int32 := itr (fun _ x => yrP T lw q x) (r, seed) n
theorem yrS_e (T : dvT) (lw : (Nat → Int32) → Int32) (q seed : Int32) (r : Nat → Int32) (n : Nat) : yrS T lw q seed r (n + 1) = yrP T lw q (yrS T lw q seed r n) := rfl
theorem yrS_ok {T : dvT} {lw : (Nat → Int32) → Int32} {q seed : Int32} {r : Nat → Int32} (hO : tOK T) (h : rowOK T r) : ∀ n, rowOK T (yrS T lw q seed r n).1 := by
  intro n
  have o1 := hO.1
  have o2 := hO.2.1
  induction n with
  | zero => exact h
  | succ n ih =>
    rw [yrS_e]
    unfold yrP
    by_cases hz : tJ T = 0 ∨ tP T = 0
    · rw [if_pos hz]; exact rowOK_day hO ih
    · rw [if_neg hz]
      have k1 := (drw_e (ltS (yrS T lw q seed r n).2) (m := tJ T) (by omega) (by omega)).2
      have k2 := (drw_e (ltS (ltS (yrS T lw q seed r n).2)) (m := tP T) (by omega) (by omega)).2
      refine rowOK_day hO ?_
      split
      · exact rowOK_tel hO k1 k2 ih
      · exact rowOK_grv hO k2 (rowOK_tel hO k1 k2 ih)
section CALL
variable {b : Nat} {w : Nat → Nat} {M : dwSt} {A : dvA}
theorem c_draw {m : Nat} (hs : Sh b M) (hm : 0 < m) (hm2 : m < 2147483648) : m_X1_draw M b (Int32.ofNat m) = some (drwV (ltS (dwI M b 14)) (Int32.ofNat m), dwPI M b 14 (ltS (dwI M b 14))) := by
  have hz : (Int32.ofNat m = 0) = False := by rw [← i_zero, i_inj (by omega) (by omega)]; exact eq_false (by omega)
  simp -implicitDefEqProofs only [m_X1_draw, ↓gp0_2, ↓gp0_3, ↓gp0_4, ↓gp0_5, ↓gp0_6, ↓gp0_7, ↓gp0_8, ↓gp0_9, ↓gp0_10, ↓gp0_18, ↓gp0_19, ↓gp0_20, ↓gp0_22, ↓gp23_43, ↓gp23_32, ↓gp23_33, ↓gp23_34, ↓gp23_35, ↓gp23_36, ↓gp29_43, ↓gp29_32, ↓gp29_33, ↓gp29_34, ↓gp29_35, ↓gp29_36, ↓gp54_53, ↓gp54_54, ↓gp54_55, ↓gp54_56, ↓gp54_57, ↓gp54_58, ↓gp54_59, ↓gp54_60, ↓gp54_61, ↓gp54_62, ↓gp54_65, ↓gp54_66, ↓gp54_67, ↓gp54_68, ↓gp54_69, ↓gp54_70, ↓gp54_71, ↓gp54_73, ↓gp54_74, ↓gp54_75, ↓gp54_76, ↓gp54_84, ↓gp54_85, ↓gp54_87, ↓gp54_88, ↓xr59, kr59, ↓xr67, kr67, ↓xr75, kr75, ↓xr82, kr82, ↓xr89, kr89, ↓xr102, kr102, ↓xr115, kr115, ↓xr276, kr276, ↓xr437, kr437, ↓xr444, kr444, ↓xr453, kr453, ↓xr536, kr536, ↓xr553, kr553, hs0, hw0, hs1, hw1, hs2, hw2, hs3, hw3, hs4, hw4, hs5, hw5, hs6, hw6, hs7, hw7, hs8, hw8, hs9, hw9, hs10, hw10, hs11, hw11, hs12, hw12, hs13, hw13, hs14, hw14, hs15, hw15, hs16, hw16, hs17, hw17, hs18, hw18, hs19, hw19, hs20, hw20, hs21, hw21, hs22, hw22, hs23, hw23, hs25, hw25, hs26, hw26, hs27, hw27, hs28, hw28, hs9b, hw9b, hs10b, hw10b, kd0, kd20, kd21, kd22, kd23, kd24, kd25, kd26, kd27, kd28, kd29, kd30, kd31, kd32, kd33, kd34, kd35, kd36, kd37, kd38, kd39, kd40, kd41, kd42, kd54, kd55, kd56, kd57, kd58, kd59, kd67, kd75, kd82, kd89, kd102, kd115, kd276, kd437, kd444, kd451, kd452, kd453, kd534, kd535, kd536, kd553, kd557, kd558, kd559, kd560, kd561, ↓xgI_u, ↓xpI_u, ↓xaI_u, ↓xsI_u, ↓xrk_u, ↓xrk0_u, ↓xob_v, ↓xmb_v, ↓xth_v, ↓xth_x, ↓jn_u, ↓xlen_u, ↓xaL_u, ↓xsL_u, ↓xbl_0, ↓xbl_1, eq_self, inb_n, inb_d, Sh_PI, Sh_PL, dk_PI, dk_PL, dr_PI, dr_PL, ↓reduceIte, Int32.reduceLE, Int32.reduceLT, Int32.reduceToNatClampNeg, Nat.reduceLT, Nat.reduceLeDiff, Nat.reduceEqDiff, Nat.reduceAdd, Nat.reduceMul, hs, di_eq, xrem_u hz]
  rfl
theorem t_draw {m : Nat} (hs : Sh b M) (hm : 0 < m) (hm2 : m < 2147483648) : m_X10_draw M (b + 54) (Int32.ofNat m) = some (drwV (ltS (dwI M (b + 54) 89)) (Int32.ofNat m), dwPI M (b + 54) 89 (ltS (dwI M (b + 54) 89))) := by
  have hz : (Int32.ofNat m = 0) = False := by rw [← i_zero, i_inj (by omega) (by omega)]; exact eq_false (by omega)
  simp -implicitDefEqProofs only [m_X10_draw, ↓gp0_2, ↓gp0_3, ↓gp0_4, ↓gp0_5, ↓gp0_6, ↓gp0_7, ↓gp0_8, ↓gp0_9, ↓gp0_10, ↓gp0_18, ↓gp0_19, ↓gp0_20, ↓gp0_22, ↓gp23_43, ↓gp23_32, ↓gp23_33, ↓gp23_34, ↓gp23_35, ↓gp23_36, ↓gp29_43, ↓gp29_32, ↓gp29_33, ↓gp29_34, ↓gp29_35, ↓gp29_36, ↓gp54_53, ↓gp54_54, ↓gp54_55, ↓gp54_56, ↓gp54_57, ↓gp54_58, ↓gp54_59, ↓gp54_60, ↓gp54_61, ↓gp54_62, ↓gp54_65, ↓gp54_66, ↓gp54_67, ↓gp54_68, ↓gp54_69, ↓gp54_70, ↓gp54_71, ↓gp54_73, ↓gp54_74, ↓gp54_75, ↓gp54_76, ↓gp54_84, ↓gp54_85, ↓gp54_87, ↓gp54_88, ↓xr59, kr59, ↓xr67, kr67, ↓xr75, kr75, ↓xr82, kr82, ↓xr89, kr89, ↓xr102, kr102, ↓xr115, kr115, ↓xr276, kr276, ↓xr437, kr437, ↓xr444, kr444, ↓xr453, kr453, ↓xr536, kr536, ↓xr553, kr553, hs0, hw0, hs1, hw1, hs2, hw2, hs3, hw3, hs4, hw4, hs5, hw5, hs6, hw6, hs7, hw7, hs8, hw8, hs9, hw9, hs10, hw10, hs11, hw11, hs12, hw12, hs13, hw13, hs14, hw14, hs15, hw15, hs16, hw16, hs17, hw17, hs18, hw18, hs19, hw19, hs20, hw20, hs21, hw21, hs22, hw22, hs23, hw23, hs25, hw25, hs26, hw26, hs27, hw27, hs28, hw28, hs9b, hw9b, hs10b, hw10b, kd0, kd20, kd21, kd22, kd23, kd24, kd25, kd26, kd27, kd28, kd29, kd30, kd31, kd32, kd33, kd34, kd35, kd36, kd37, kd38, kd39, kd40, kd41, kd42, kd54, kd55, kd56, kd57, kd58, kd59, kd67, kd75, kd82, kd89, kd102, kd115, kd276, kd437, kd444, kd451, kd452, kd453, kd534, kd535, kd536, kd553, kd557, kd558, kd559, kd560, kd561, ↓xgI_u, ↓xpI_u, ↓xaI_u, ↓xsI_u, ↓xrk_u, ↓xrk0_u, ↓xob_v, ↓xmb_v, ↓xth_v, ↓xth_x, ↓jn_u, ↓xlen_u, ↓xaL_u, ↓xsL_u, ↓xbl_0, ↓xbl_1, eq_self, inb_n, inb_d, Sh_PI, Sh_PL, dk_PI, dk_PL, dr_PI, dr_PL, ↓reduceIte, Int32.reduceLE, Int32.reduceLT, Int32.reduceToNatClampNeg, Nat.reduceLT, Nat.reduceLeDiff, Nat.reduceEqDiff, Nat.reduceAdd, Nat.reduceMul, hs, di_eq, xrem_u hz]
  rfl
theorem i_le0 {n : Nat} (h : 0 < n) (hn : n < 2147483648) : (Int32.ofNat n ≤ 0) = False := by
  rw [← i_zero, i_le hn (by omega)]; exact eq_false (by omega)
theorem c_yearBy {seed q : Int32} {n : Nat} (z : Nat → Int32) (hC : CInv b w M A) (hn : n < 1000) : ∃ M1, m_X1_yearBy M b seed (Int32.ofNat n) q = some (b + 29, M1) ∧ fr (cSc b) nz 0 0 M M1 ∧ cSea b M1 (b + 29) (tP (aT A)) (yrS (aT A) (aLw A) q seed (cp79 (aNow A) z) n).1 := by
  have hs := hC.1.1
  have hO := hC.1.ok.1
  have o1 := hO.1
  have o2 := hO.2.1
  have hnN := shN hs
  obtain ⟨M0, e0, f0, h0⟩ := c_probe hC z
  have f0' : fr (cSc b) nz 0 0 M M0 := f0.mono sSe_c (fun _ _ q => q) (Nat.le_refl _) (Nat.le_refl _)
  have hs0 := hs.fr f0' nz_p
  simp -implicitDefEqProofs only [m_X1_yearBy, ↓gp0_2, ↓gp0_3, ↓gp0_4, ↓gp0_5, ↓gp0_6, ↓gp0_7, ↓gp0_8, ↓gp0_9, ↓gp0_10, ↓gp0_18, ↓gp0_19, ↓gp0_20, ↓gp0_22, ↓gp23_43, ↓gp23_32, ↓gp23_33, ↓gp23_34, ↓gp23_35, ↓gp23_36, ↓gp29_43, ↓gp29_32, ↓gp29_33, ↓gp29_34, ↓gp29_35, ↓gp29_36, ↓gp54_53, ↓gp54_54, ↓gp54_55, ↓gp54_56, ↓gp54_57, ↓gp54_58, ↓gp54_59, ↓gp54_60, ↓gp54_61, ↓gp54_62, ↓gp54_65, ↓gp54_66, ↓gp54_67, ↓gp54_68, ↓gp54_69, ↓gp54_70, ↓gp54_71, ↓gp54_73, ↓gp54_74, ↓gp54_75, ↓gp54_76, ↓gp54_84, ↓gp54_85, ↓gp54_87, ↓gp54_88, ↓xr59, kr59, ↓xr67, kr67, ↓xr75, kr75, ↓xr82, kr82, ↓xr89, kr89, ↓xr102, kr102, ↓xr115, kr115, ↓xr276, kr276, ↓xr437, kr437, ↓xr444, kr444, ↓xr453, kr453, ↓xr536, kr536, ↓xr553, kr553, hs0, hw0, hs1, hw1, hs2, hw2, hs3, hw3, hs4, hw4, hs5, hw5, hs6, hw6, hs7, hw7, hs8, hw8, hs9, hw9, hs10, hw10, hs11, hw11, hs12, hw12, hs13, hw13, hs14, hw14, hs15, hw15, hs16, hw16, hs17, hw17, hs18, hw18, hs19, hw19, hs20, hw20, hs21, hw21, hs22, hw22, hs23, hw23, hs25, hw25, hs26, hw26, hs27, hw27, hs28, hw28, hs9b, hw9b, hs10b, hw10b, kd0, kd20, kd21, kd22, kd23, kd24, kd25, kd26, kd27, kd28, kd29, kd30, kd31, kd32, kd33, kd34, kd35, kd36, kd37, kd38, kd39, kd40, kd41, kd42, kd54, kd55, kd56, kd57, kd58, kd59, kd67, kd75, kd82, kd89, kd102, kd115, kd276, kd437, kd444, kd451, kd452, kd453, kd534, kd535, kd536, kd553, kd557, kd558, kd559, kd560, kd561, ↓xgI_u, ↓xpI_u, ↓xaI_u, ↓xsI_u, ↓xrk_u, ↓xrk0_u, ↓xob_v, ↓xmb_v, ↓xth_v, ↓xth_x, ↓jn_u, ↓xlen_u, ↓xaL_u, ↓xsL_u, ↓xbl_0, ↓xbl_1, eq_self, inb_n, inb_d, Sh_PI, Sh_PL, dk_PI, dk_PL, dr_PI, dr_PL, ↓reduceIte, Int32.reduceLE, Int32.reduceLT, Int32.reduceToNatClampNeg, Nat.reduceLT, Nat.reduceLeDiff, Nat.reduceEqDiff, Nat.reduceAdd, Nat.reduceMul, hs, hs0, e0]
  have hr0 : rowOK (aT A) (cp79 (aNow A) z) := rowOK_c hC.1.ok.2.2.1.1 o1 (fun k hk => cp79_e hk)
  have in14 : ∀ (M' : dwSt), cSc b b 14 ∨ dwN M' ≤ b := fun _ => Or.inl (Or.inl ⟨rfl, Or.inl rfl⟩)
  refine lpx (E := fun x => ∃ M1, x = some (b + 29, M1) ∧ fr (cSc b) nz 0 0 M M1 ∧ cSea b M1 (b + 29) (tP (aT A)) (yrS (aT A) (aLw A) q seed (cp79 (aNow A) z) n).1) (fun f i (M1 : dwSt) => L_X1_yearBy_21 b (Int32.ofNat n) q (b + 29) (fun (M6 : dwSt) => some (b + 29, M6)) f (Int32.ofNat i) M1) n (fun i M1 => fr (cSc b) nz 0 0 M M1 ∧ cSea b M1 (b + 29) (tP (aT A)) (yrS (aT A) (aLw A) q seed (cp79 (aNow A) z) i).1 ∧ dwI M1 b 14 = (yrS (aT A) (aLw A) q seed (cp79 (aNow A) z) i).2) ?_ ?_ 1000000 0 (dwPI M0 b 14 seed) (by omega) (by omega) ⟨f0'.pI _ (in14 M), ?_, di_eq⟩
  · intro f M1 ⟨hf, hr, hl⟩
    refine ⟨M1, ?_, hf, hr⟩
    simp -implicitDefEqProofs only [L_X1_yearBy_21, i_geT, if_true]
  · intro f i M1 hi ⟨hf, hr, hl⟩ hnx
    have c1 := cinv_s hC hf
    have hs1 := c1.1.1
    have hro := yrS_ok (lw := aLw A) (q := q) (seed := seed) hO hr0 i
    have es := yrS_e (aT A) (aLw A) q seed (cp79 (aNow A) z) i
    show ∃ M3, L_X1_yearBy_21 b (Int32.ofNat n) q (b + 29) _ (f + 1) (Int32.ofNat i) M1 = _ ∧ _
    by_cases hz : tJ (aT A) = 0 ∨ tP (aT A) = 0
    · obtain ⟨M2, u, f2, h2⟩ := c_passes c1.1.1 c1.1.2.1 hr (w := w) sep_probe
      have hf2 := hf.t0 (f2.mono sSe_c (fun _ _ q => q) (Nat.le_refl _) (Nat.le_refl _))
      have hk : dwI M2 b 14 = dwI M1 b 14 := f2.i (by have := hf.n; omega) (fun q => by unfold sSe at q; omega)
      unfold yrP at es
      rw [if_pos hz] at es
      have go : L_X1_yearBy_21 b (Int32.ofNat n) q (b + 29) (fun (M6 : dwSt) => some (b + 29, M6)) (f + 1) (Int32.ofNat i) M1 = L_X1_yearBy_21 b (Int32.ofNat n) q (b + 29) (fun (M6 : dwSt) => some (b + 29, M6)) f (Int32.ofNat (i + 1)) M2 := by
        rcases hz with hz | hz
        · simp -implicitDefEqProofs only [L_X1_yearBy_21, i_geF hi (by omega), if_false, ↓gp0_2, ↓gp0_3, ↓gp0_4, ↓gp0_5, ↓gp0_6, ↓gp0_7, ↓gp0_8, ↓gp0_9, ↓gp0_10, ↓gp0_18, ↓gp0_19, ↓gp0_20, ↓gp0_22, ↓gp23_43, ↓gp23_32, ↓gp23_33, ↓gp23_34, ↓gp23_35, ↓gp23_36, ↓gp29_43, ↓gp29_32, ↓gp29_33, ↓gp29_34, ↓gp29_35, ↓gp29_36, ↓gp54_53, ↓gp54_54, ↓gp54_55, ↓gp54_56, ↓gp54_57, ↓gp54_58, ↓gp54_59, ↓gp54_60, ↓gp54_61, ↓gp54_62, ↓gp54_65, ↓gp54_66, ↓gp54_67, ↓gp54_68, ↓gp54_69, ↓gp54_70, ↓gp54_71, ↓gp54_73, ↓gp54_74, ↓gp54_75, ↓gp54_76, ↓gp54_84, ↓gp54_85, ↓gp54_87, ↓gp54_88, ↓xr59, kr59, ↓xr67, kr67, ↓xr75, kr75, ↓xr82, kr82, ↓xr89, kr89, ↓xr102, kr102, ↓xr115, kr115, ↓xr276, kr276, ↓xr437, kr437, ↓xr444, kr444, ↓xr453, kr453, ↓xr536, kr536, ↓xr553, kr553, hs0, hw0, hs1, hw1, hs2, hw2, hs3, hw3, hs4, hw4, hs5, hw5, hs6, hw6, hs7, hw7, hs8, hw8, hs9, hw9, hs10, hw10, hs11, hw11, hs12, hw12, hs13, hw13, hs14, hw14, hs15, hw15, hs16, hw16, hs17, hw17, hs18, hw18, hs19, hw19, hs20, hw20, hs21, hw21, hs22, hw22, hs23, hw23, hs25, hw25, hs26, hw26, hs27, hw27, hs28, hw28, hs9b, hw9b, hs10b, hw10b, kd0, kd20, kd21, kd22, kd23, kd24, kd25, kd26, kd27, kd28, kd29, kd30, kd31, kd32, kd33, kd34, kd35, kd36, kd37, kd38, kd39, kd40, kd41, kd42, kd54, kd55, kd56, kd57, kd58, kd59, kd67, kd75, kd82, kd89, kd102, kd115, kd276, kd437, kd444, kd451, kd452, kd453, kd534, kd535, kd536, kd553, kd557, kd558, kd559, kd560, kd561, ↓xgI_u, ↓xpI_u, ↓xaI_u, ↓xsI_u, ↓xrk_u, ↓xrk0_u, ↓xob_v, ↓xmb_v, ↓xth_v, ↓xth_x, ↓jn_u, ↓xlen_u, ↓xaL_u, ↓xsL_u, ↓xbl_0, ↓xbl_1, eq_self, inb_n, inb_d, Sh_PI, Sh_PL, dk_PI, dk_PL, dr_PI, dr_PL, ↓reduceIte, Int32.reduceLE, Int32.reduceLT, Int32.reduceToNatClampNeg, Nat.reduceLT, Nat.reduceLeDiff, Nat.reduceEqDiff, Nat.reduceAdd, Nat.reduceMul, hs1, c_jokes hs1 c1.1.2.1, hz, i_zero, Int32.le_refl, if_true, u, i_succ]
        · by_cases hj : tJ (aT A) = 0
          · simp -implicitDefEqProofs only [L_X1_yearBy_21, i_geF hi (by omega), if_false, ↓gp0_2, ↓gp0_3, ↓gp0_4, ↓gp0_5, ↓gp0_6, ↓gp0_7, ↓gp0_8, ↓gp0_9, ↓gp0_10, ↓gp0_18, ↓gp0_19, ↓gp0_20, ↓gp0_22, ↓gp23_43, ↓gp23_32, ↓gp23_33, ↓gp23_34, ↓gp23_35, ↓gp23_36, ↓gp29_43, ↓gp29_32, ↓gp29_33, ↓gp29_34, ↓gp29_35, ↓gp29_36, ↓gp54_53, ↓gp54_54, ↓gp54_55, ↓gp54_56, ↓gp54_57, ↓gp54_58, ↓gp54_59, ↓gp54_60, ↓gp54_61, ↓gp54_62, ↓gp54_65, ↓gp54_66, ↓gp54_67, ↓gp54_68, ↓gp54_69, ↓gp54_70, ↓gp54_71, ↓gp54_73, ↓gp54_74, ↓gp54_75, ↓gp54_76, ↓gp54_84, ↓gp54_85, ↓gp54_87, ↓gp54_88, ↓xr59, kr59, ↓xr67, kr67, ↓xr75, kr75, ↓xr82, kr82, ↓xr89, kr89, ↓xr102, kr102, ↓xr115, kr115, ↓xr276, kr276, ↓xr437, kr437, ↓xr444, kr444, ↓xr453, kr453, ↓xr536, kr536, ↓xr553, kr553, hs0, hw0, hs1, hw1, hs2, hw2, hs3, hw3, hs4, hw4, hs5, hw5, hs6, hw6, hs7, hw7, hs8, hw8, hs9, hw9, hs10, hw10, hs11, hw11, hs12, hw12, hs13, hw13, hs14, hw14, hs15, hw15, hs16, hw16, hs17, hw17, hs18, hw18, hs19, hw19, hs20, hw20, hs21, hw21, hs22, hw22, hs23, hw23, hs25, hw25, hs26, hw26, hs27, hw27, hs28, hw28, hs9b, hw9b, hs10b, hw10b, kd0, kd20, kd21, kd22, kd23, kd24, kd25, kd26, kd27, kd28, kd29, kd30, kd31, kd32, kd33, kd34, kd35, kd36, kd37, kd38, kd39, kd40, kd41, kd42, kd54, kd55, kd56, kd57, kd58, kd59, kd67, kd75, kd82, kd89, kd102, kd115, kd276, kd437, kd444, kd451, kd452, kd453, kd534, kd535, kd536, kd553, kd557, kd558, kd559, kd560, kd561, ↓xgI_u, ↓xpI_u, ↓xaI_u, ↓xsI_u, ↓xrk_u, ↓xrk0_u, ↓xob_v, ↓xmb_v, ↓xth_v, ↓xth_x, ↓jn_u, ↓xlen_u, ↓xaL_u, ↓xsL_u, ↓xbl_0, ↓xbl_1, eq_self, inb_n, inb_d, Sh_PI, Sh_PL, dk_PI, dk_PL, dr_PI, dr_PL, ↓reduceIte, Int32.reduceLE, Int32.reduceLT, Int32.reduceToNatClampNeg, Nat.reduceLT, Nat.reduceLeDiff, Nat.reduceEqDiff, Nat.reduceAdd, Nat.reduceMul, hs1, c_jokes hs1 c1.1.2.1, hj, i_zero, Int32.le_refl, if_true, u, i_succ]
          · simp -implicitDefEqProofs only [L_X1_yearBy_21, i_geF hi (by omega), if_false, ↓gp0_2, ↓gp0_3, ↓gp0_4, ↓gp0_5, ↓gp0_6, ↓gp0_7, ↓gp0_8, ↓gp0_9, ↓gp0_10, ↓gp0_18, ↓gp0_19, ↓gp0_20, ↓gp0_22, ↓gp23_43, ↓gp23_32, ↓gp23_33, ↓gp23_34, ↓gp23_35, ↓gp23_36, ↓gp29_43, ↓gp29_32, ↓gp29_33, ↓gp29_34, ↓gp29_35, ↓gp29_36, ↓gp54_53, ↓gp54_54, ↓gp54_55, ↓gp54_56, ↓gp54_57, ↓gp54_58, ↓gp54_59, ↓gp54_60, ↓gp54_61, ↓gp54_62, ↓gp54_65, ↓gp54_66, ↓gp54_67, ↓gp54_68, ↓gp54_69, ↓gp54_70, ↓gp54_71, ↓gp54_73, ↓gp54_74, ↓gp54_75, ↓gp54_76, ↓gp54_84, ↓gp54_85, ↓gp54_87, ↓gp54_88, ↓xr59, kr59, ↓xr67, kr67, ↓xr75, kr75, ↓xr82, kr82, ↓xr89, kr89, ↓xr102, kr102, ↓xr115, kr115, ↓xr276, kr276, ↓xr437, kr437, ↓xr444, kr444, ↓xr453, kr453, ↓xr536, kr536, ↓xr553, kr553, hs0, hw0, hs1, hw1, hs2, hw2, hs3, hw3, hs4, hw4, hs5, hw5, hs6, hw6, hs7, hw7, hs8, hw8, hs9, hw9, hs10, hw10, hs11, hw11, hs12, hw12, hs13, hw13, hs14, hw14, hs15, hw15, hs16, hw16, hs17, hw17, hs18, hw18, hs19, hw19, hs20, hw20, hs21, hw21, hs22, hw22, hs23, hw23, hs25, hw25, hs26, hw26, hs27, hw27, hs28, hw28, hs9b, hw9b, hs10b, hw10b, kd0, kd20, kd21, kd22, kd23, kd24, kd25, kd26, kd27, kd28, kd29, kd30, kd31, kd32, kd33, kd34, kd35, kd36, kd37, kd38, kd39, kd40, kd41, kd42, kd54, kd55, kd56, kd57, kd58, kd59, kd67, kd75, kd82, kd89, kd102, kd115, kd276, kd437, kd444, kd451, kd452, kd453, kd534, kd535, kd536, kd553, kd557, kd558, kd559, kd560, kd561, ↓xgI_u, ↓xpI_u, ↓xaI_u, ↓xsI_u, ↓xrk_u, ↓xrk0_u, ↓xob_v, ↓xmb_v, ↓xth_v, ↓xth_x, ↓jn_u, ↓xlen_u, ↓xaL_u, ↓xsL_u, ↓xbl_0, ↓xbl_1, eq_self, inb_n, inb_d, Sh_PI, Sh_PL, dk_PI, dk_PL, dr_PI, dr_PL, ↓reduceIte, Int32.reduceLE, Int32.reduceLT, Int32.reduceToNatClampNeg, Nat.reduceLT, Nat.reduceLeDiff, Nat.reduceEqDiff, Nat.reduceAdd, Nat.reduceMul, hs1, c_jokes hs1 c1.1.2.1, c_persons hs1 c1.1.2.1, i_le0 (show 0 < tJ (aT A) by omega) (by omega), hz, i_zero, Int32.le_refl, if_true, u, i_succ]
      rw [go]
      exact hnx M2 ⟨hf2, by rw [es]; exact h2, by rw [es, hk]; exact hl⟩
    · unfold yrP at es
      rw [if_neg hz] at es
      generalize yrS (aT A) (aLw A) q seed (cp79 (aNow A) z) i = X at *
      obtain ⟨d1, k1⟩ := drw_e (ltS X.2) (m := tJ (aT A)) (by omega) (by omega)
      obtain ⟨d2, k2⟩ := drw_e (ltS (ltS X.2)) (m := tP (aT A)) (by omega) (by omega)
      have u1 := c_draw (m := tJ (aT A)) hs1 (by omega) (by omega)
      rw [hl, d1] at u1
      have fA := hf.pI (a := b) (k := 14) (ltS X.2) (in14 M)
      have cA := cinv_s hC fA
      have u2 := c_draw (m := tP (aT A)) cA.1.1 (by omega) (by omega)
      rw [di_eq, d2] at u2
      have fB := fA.pI (a := b) (k := 14) (ltS (ltS X.2)) (in14 M)
      have cB := cinv_s hC fB
      have hrB : cSea b (dwPI (dwPI M1 b 14 (ltS X.2)) b 14 (ltS (ltS X.2))) (b + 29) (tP (aT A)) X.1 := hr.fr (S := fun a k => a = b) (Z := nz) (fr.pI (a := b) (k := 14) (fr.pI (S := fun a k => a = b) (Z := nz) (fr.refl M1) (a := b) (k := 14) (ltS X.2) (Or.inl rfl)) (ltS (ltS X.2)) (Or.inl rfl)) (fun i k hi q => by omega) (fun _ q => q)
      obtain ⟨M3, u3, f3, h3⟩ := c_tells cB.e hrB (w := w) sep_probe (by omega) k1 k2 (hro.1 _ k2).1
      have f3' : fr (cSc b) nz 0 0 (dwPI (dwPI M1 b 14 (ltS X.2)) b 14 (ltS (ltS X.2))) M3 := f3.mono (fun a k q => by unfold sSF at q; unfold cSc; omega) (fun _ _ q => q) (Nat.le_refl _) (Nat.le_refl _)
      have fC := fB.t0 f3'
      have cC := cinv_s hC fC
      have l3 : dwI M3 b 14 = ltS (ltS X.2) := (f3.i (by show b < dwN M1; have := hf.n; omega) (fun q => by unfold sSF at q; omega)).trans di_eq
      have u4 : m_X1_draw M3 b 16 = _ := c_draw (m := 16) cC.1.1 (by omega) (by omega)
      rw [l3, show (Int32.ofNat 16) = (16 : Int32) from rfl] at u4
      have fD := fC.pI (a := b) (k := 14) (ltS (ltS (ltS X.2))) (in14 M)
      have cD := cinv_s hC fD
      have hrD : cSea b (dwPI M3 b 14 (ltS (ltS (ltS X.2)))) (b + 29) (tP (aT A)) (telS (aT A) (aLw A) (drwN (ltS X.2) (tJ (aT A))) (drwN (ltS (ltS X.2)) (tP (aT A))) X.1) := h3.fr (S := fun a k => a = b) (Z := nz) (fr.pI (S := fun a k => a = b) (Z := nz) (fr.refl M3) (a := b) (k := 14) _ (Or.inl rfl)) (fun i k hi q => by omega) (fun _ q => q)
      have lD : dwI (dwPI M3 b 14 (ltS (ltS (ltS X.2)))) b 14 = ltS (ltS (ltS X.2)) := di_eq
      by_cases hq : q ≤ drwV (ltS (ltS (ltS X.2))) 16
      · rw [if_pos hq] at es
        obtain ⟨M5, u5, f5, h5⟩ := c_passes cD.1.1 cD.1.2.1 hrD (w := w) sep_probe
        have l5 : dwI M5 b 14 = ltS (ltS (ltS X.2)) := (f5.i (by show b < dwN M3; have := fC.n; omega) (fun q => by unfold sSe at q; omega)).trans lD
        simp -implicitDefEqProofs only [L_X1_yearBy_21, i_geF hi (by omega), if_false, ↓gp0_2, ↓gp0_3, ↓gp0_4, ↓gp0_5, ↓gp0_6, ↓gp0_7, ↓gp0_8, ↓gp0_9, ↓gp0_10, ↓gp0_18, ↓gp0_19, ↓gp0_20, ↓gp0_22, ↓gp23_43, ↓gp23_32, ↓gp23_33, ↓gp23_34, ↓gp23_35, ↓gp23_36, ↓gp29_43, ↓gp29_32, ↓gp29_33, ↓gp29_34, ↓gp29_35, ↓gp29_36, ↓gp54_53, ↓gp54_54, ↓gp54_55, ↓gp54_56, ↓gp54_57, ↓gp54_58, ↓gp54_59, ↓gp54_60, ↓gp54_61, ↓gp54_62, ↓gp54_65, ↓gp54_66, ↓gp54_67, ↓gp54_68, ↓gp54_69, ↓gp54_70, ↓gp54_71, ↓gp54_73, ↓gp54_74, ↓gp54_75, ↓gp54_76, ↓gp54_84, ↓gp54_85, ↓gp54_87, ↓gp54_88, ↓xr59, kr59, ↓xr67, kr67, ↓xr75, kr75, ↓xr82, kr82, ↓xr89, kr89, ↓xr102, kr102, ↓xr115, kr115, ↓xr276, kr276, ↓xr437, kr437, ↓xr444, kr444, ↓xr453, kr453, ↓xr536, kr536, ↓xr553, kr553, hs0, hw0, hs1, hw1, hs2, hw2, hs3, hw3, hs4, hw4, hs5, hw5, hs6, hw6, hs7, hw7, hs8, hw8, hs9, hw9, hs10, hw10, hs11, hw11, hs12, hw12, hs13, hw13, hs14, hw14, hs15, hw15, hs16, hw16, hs17, hw17, hs18, hw18, hs19, hw19, hs20, hw20, hs21, hw21, hs22, hw22, hs23, hw23, hs25, hw25, hs26, hw26, hs27, hw27, hs28, hw28, hs9b, hw9b, hs10b, hw10b, kd0, kd20, kd21, kd22, kd23, kd24, kd25, kd26, kd27, kd28, kd29, kd30, kd31, kd32, kd33, kd34, kd35, kd36, kd37, kd38, kd39, kd40, kd41, kd42, kd54, kd55, kd56, kd57, kd58, kd59, kd67, kd75, kd82, kd89, kd102, kd115, kd276, kd437, kd444, kd451, kd452, kd453, kd534, kd535, kd536, kd553, kd557, kd558, kd559, kd560, kd561, ↓xgI_u, ↓xpI_u, ↓xaI_u, ↓xsI_u, ↓xrk_u, ↓xrk0_u, ↓xob_v, ↓xmb_v, ↓xth_v, ↓xth_x, ↓jn_u, ↓xlen_u, ↓xaL_u, ↓xsL_u, ↓xbl_0, ↓xbl_1, eq_self, inb_n, inb_d, Sh_PI, Sh_PL, dk_PI, dk_PL, dr_PI, dr_PL, ↓reduceIte, Int32.reduceLE, Int32.reduceLT, Int32.reduceToNatClampNeg, Nat.reduceLT, Nat.reduceLeDiff, Nat.reduceEqDiff, Nat.reduceAdd, Nat.reduceMul, hs1, cA.1.1, cB.1.1, cC.1.1, cD.1.1, c_jokes hs1 c1.1.2.1, c_persons hs1 c1.1.2.1, c_persons cA.1.1 cA.1.2.1, i_le0 (show 0 < tJ (aT A) by omega) (by omega), i_le0 (show 0 < tP (aT A) by omega) (by omega), u1, u2, u3, u4, hq, if_true, u5, i_succ]
        exact hnx M5 ⟨fD.t0 (f5.mono sSe_c (fun _ _ q => q) (Nat.le_refl _) (Nat.le_refl _)), by rw [es]; exact h5, by rw [es]; exact l5⟩
      · rw [if_neg hq] at es
        obtain ⟨M4, u6, f6, h6⟩ := c_grieves (T := aT A) (n := 3) hrD o1 (show drwN (ltS (ltS X.2)) (tP (aT A)) < 7 by omega)
        have fE := fD.t0 (f6.mono (S' := cSc b) sSe_c (fun _ _ q => q) (Nat.le_refl _) (Nat.le_refl _))
        have cE := cinv_s hC fE
        obtain ⟨M5, u5, f5, h5⟩ := c_passes cE.1.1 cE.1.2.1 h6 (w := w) sep_probe
        have l4 : dwI M4 b 14 = ltS (ltS (ltS X.2)) := (f6.i (by show b < dwN M3; have := fC.n; omega) (fun q => by unfold sSe at q; omega)).trans lD
        have l5 : dwI M5 b 14 = ltS (ltS (ltS X.2)) := (f5.i (by have := fE.n; omega) (fun q => by unfold sSe at q; omega)).trans l4
        simp -implicitDefEqProofs only [L_X1_yearBy_21, i_geF hi (by omega), if_false, ↓gp0_2, ↓gp0_3, ↓gp0_4, ↓gp0_5, ↓gp0_6, ↓gp0_7, ↓gp0_8, ↓gp0_9, ↓gp0_10, ↓gp0_18, ↓gp0_19, ↓gp0_20, ↓gp0_22, ↓gp23_43, ↓gp23_32, ↓gp23_33, ↓gp23_34, ↓gp23_35, ↓gp23_36, ↓gp29_43, ↓gp29_32, ↓gp29_33, ↓gp29_34, ↓gp29_35, ↓gp29_36, ↓gp54_53, ↓gp54_54, ↓gp54_55, ↓gp54_56, ↓gp54_57, ↓gp54_58, ↓gp54_59, ↓gp54_60, ↓gp54_61, ↓gp54_62, ↓gp54_65, ↓gp54_66, ↓gp54_67, ↓gp54_68, ↓gp54_69, ↓gp54_70, ↓gp54_71, ↓gp54_73, ↓gp54_74, ↓gp54_75, ↓gp54_76, ↓gp54_84, ↓gp54_85, ↓gp54_87, ↓gp54_88, ↓xr59, kr59, ↓xr67, kr67, ↓xr75, kr75, ↓xr82, kr82, ↓xr89, kr89, ↓xr102, kr102, ↓xr115, kr115, ↓xr276, kr276, ↓xr437, kr437, ↓xr444, kr444, ↓xr453, kr453, ↓xr536, kr536, ↓xr553, kr553, hs0, hw0, hs1, hw1, hs2, hw2, hs3, hw3, hs4, hw4, hs5, hw5, hs6, hw6, hs7, hw7, hs8, hw8, hs9, hw9, hs10, hw10, hs11, hw11, hs12, hw12, hs13, hw13, hs14, hw14, hs15, hw15, hs16, hw16, hs17, hw17, hs18, hw18, hs19, hw19, hs20, hw20, hs21, hw21, hs22, hw22, hs23, hw23, hs25, hw25, hs26, hw26, hs27, hw27, hs28, hw28, hs9b, hw9b, hs10b, hw10b, kd0, kd20, kd21, kd22, kd23, kd24, kd25, kd26, kd27, kd28, kd29, kd30, kd31, kd32, kd33, kd34, kd35, kd36, kd37, kd38, kd39, kd40, kd41, kd42, kd54, kd55, kd56, kd57, kd58, kd59, kd67, kd75, kd82, kd89, kd102, kd115, kd276, kd437, kd444, kd451, kd452, kd453, kd534, kd535, kd536, kd553, kd557, kd558, kd559, kd560, kd561, ↓xgI_u, ↓xpI_u, ↓xaI_u, ↓xsI_u, ↓xrk_u, ↓xrk0_u, ↓xob_v, ↓xmb_v, ↓xth_v, ↓xth_x, ↓jn_u, ↓xlen_u, ↓xaL_u, ↓xsL_u, ↓xbl_0, ↓xbl_1, eq_self, inb_n, inb_d, Sh_PI, Sh_PL, dk_PI, dk_PL, dr_PI, dr_PL, ↓reduceIte, Int32.reduceLE, Int32.reduceLT, Int32.reduceToNatClampNeg, Nat.reduceLT, Nat.reduceLeDiff, Nat.reduceEqDiff, Nat.reduceAdd, Nat.reduceMul, hs1, cA.1.1, cB.1.1, cC.1.1, cD.1.1, cE.1.1, c_jokes hs1 c1.1.2.1, c_persons hs1 c1.1.2.1, c_persons cA.1.1 cA.1.2.1, i_le0 (show 0 < tJ (aT A) by omega) (by omega), i_le0 (show 0 < tP (aT A) by omega) (by omega), u1, u2, u3, u4, hq, u6, u5, i_succ]
        exact hnx M5 ⟨fE.t0 (f5.mono sSe_c (fun _ _ q => q) (Nat.le_refl _) (Nat.le_refl _)), by rw [es]; exact h5, by rw [es]; exact l5⟩
  · exact h0.fr (S := fun a k => a = b) (Z := nz) (fr.pI (S := fun a k => a = b) (Z := nz) (fr.refl M0) (a := b) (k := 14) _ (Or.inl rfl)) (fun i k hi q => by omega) (fun _ q => q)
theorem t_yearBy {seed q : Int32} {n : Nat} (hT : TInv b M A) (hn : n < 1000) : ∃ M1, m_X10_yearBy M (b + 54) seed (Int32.ofNat n) q = some ((), M1) ∧ fr (tSc b) nz 0 0 M M1 ∧ dwI M1 (b + 535) = (yrS (aT A) (aLw A) q seed (cp79 (aNow A) (dwI M (b + 535))) n).1 := by
  have hs := hT.1.1
  have hO := hT.1.ok.1
  have o1 := hO.1
  have o2 := hO.2.1
  have hnN := shN hs
  obtain ⟨M0, e0, f0, h0⟩ := t_trial hT
  have f0' : fr (tSc b) nz 0 0 M M0 := f0.mono sRow_s (fun _ _ q => q) (Nat.le_refl _) (Nat.le_refl _)
  have hs0 := hs.fr f0' nz_p
  simp -implicitDefEqProofs only [m_X10_yearBy, ↓gp0_2, ↓gp0_3, ↓gp0_4, ↓gp0_5, ↓gp0_6, ↓gp0_7, ↓gp0_8, ↓gp0_9, ↓gp0_10, ↓gp0_18, ↓gp0_19, ↓gp0_20, ↓gp0_22, ↓gp23_43, ↓gp23_32, ↓gp23_33, ↓gp23_34, ↓gp23_35, ↓gp23_36, ↓gp29_43, ↓gp29_32, ↓gp29_33, ↓gp29_34, ↓gp29_35, ↓gp29_36, ↓gp54_53, ↓gp54_54, ↓gp54_55, ↓gp54_56, ↓gp54_57, ↓gp54_58, ↓gp54_59, ↓gp54_60, ↓gp54_61, ↓gp54_62, ↓gp54_65, ↓gp54_66, ↓gp54_67, ↓gp54_68, ↓gp54_69, ↓gp54_70, ↓gp54_71, ↓gp54_73, ↓gp54_74, ↓gp54_75, ↓gp54_76, ↓gp54_84, ↓gp54_85, ↓gp54_87, ↓gp54_88, ↓xr59, kr59, ↓xr67, kr67, ↓xr75, kr75, ↓xr82, kr82, ↓xr89, kr89, ↓xr102, kr102, ↓xr115, kr115, ↓xr276, kr276, ↓xr437, kr437, ↓xr444, kr444, ↓xr453, kr453, ↓xr536, kr536, ↓xr553, kr553, hs0, hw0, hs1, hw1, hs2, hw2, hs3, hw3, hs4, hw4, hs5, hw5, hs6, hw6, hs7, hw7, hs8, hw8, hs9, hw9, hs10, hw10, hs11, hw11, hs12, hw12, hs13, hw13, hs14, hw14, hs15, hw15, hs16, hw16, hs17, hw17, hs18, hw18, hs19, hw19, hs20, hw20, hs21, hw21, hs22, hw22, hs23, hw23, hs25, hw25, hs26, hw26, hs27, hw27, hs28, hw28, hs9b, hw9b, hs10b, hw10b, kd0, kd20, kd21, kd22, kd23, kd24, kd25, kd26, kd27, kd28, kd29, kd30, kd31, kd32, kd33, kd34, kd35, kd36, kd37, kd38, kd39, kd40, kd41, kd42, kd54, kd55, kd56, kd57, kd58, kd59, kd67, kd75, kd82, kd89, kd102, kd115, kd276, kd437, kd444, kd451, kd452, kd453, kd534, kd535, kd536, kd553, kd557, kd558, kd559, kd560, kd561, ↓xgI_u, ↓xpI_u, ↓xaI_u, ↓xsI_u, ↓xrk_u, ↓xrk0_u, ↓xob_v, ↓xmb_v, ↓xth_v, ↓xth_x, ↓jn_u, ↓xlen_u, ↓xaL_u, ↓xsL_u, ↓xbl_0, ↓xbl_1, eq_self, inb_n, inb_d, Sh_PI, Sh_PL, dk_PI, dk_PL, dr_PI, dr_PL, ↓reduceIte, Int32.reduceLE, Int32.reduceLT, Int32.reduceToNatClampNeg, Nat.reduceLT, Nat.reduceLeDiff, Nat.reduceEqDiff, Nat.reduceAdd, Nat.reduceMul, hs, hs0, e0]
  generalize hZ : dwI M (b + 535) = z at h0
  have in89 : ∀ (M' : dwSt), tSc b (b + 54) 89 ∨ dwN M' ≤ b + 54 := fun _ => Or.inl (Or.inl ⟨rfl, Or.inr rfl⟩)
  refine lpx (E := fun x => ∃ M1, x = some ((), M1) ∧ fr (tSc b) nz 0 0 M M1 ∧ dwI M1 (b + 535) = (yrS (aT A) (aLw A) q seed (cp79 (aNow A) z) n).1) (fun f i (M1 : dwSt) => L_X10_yearBy_19 (b + 54) (Int32.ofNat n) q (fun (M6 : dwSt) => some ((), M6)) f (Int32.ofNat i) M1) n (fun i M1 => fr (tSc b) nz 0 0 M M1 ∧ dwI M1 (b + 535) = (yrS (aT A) (aLw A) q seed (cp79 (aNow A) z) i).1 ∧ dwI M1 (b + 54) 89 = (yrS (aT A) (aLw A) q seed (cp79 (aNow A) z) i).2) ?_ ?_ 1000000 0 (dwPI M0 (b + 54) 89 seed) (by omega) (by omega) ⟨f0'.pI _ (in89 M), ?_, di_eq⟩
  · intro f M1 ⟨hf, hr, hl⟩
    refine ⟨M1, ?_, hf, hr⟩
    simp -implicitDefEqProofs only [L_X10_yearBy_19, i_geT, if_true]
  · intro f i M1 hi ⟨hf, hr, hl⟩ hnx
    have c1 := tinv_s hT hf
    have hs1 := c1.1.1
    have ht1 := c1.1.2.1
    have es := yrS_e (aT A) (aLw A) q seed (cp79 (aNow A) z) i
    show ∃ M3, L_X10_yearBy_19 (b + 54) (Int32.ofNat n) q _ (f + 1) (Int32.ofNat i) M1 = _ ∧ _
    by_cases hz : tJ (aT A) = 0 ∨ tP (aT A) = 0
    · obtain ⟨M2, u, f2, h2⟩ := t_dayEnds (a := b + 535) hs1 ht1 (Or.inr rfl)
      have hf2 := hf.t0 (f2.mono sRow_s (fun _ _ q => q) (Nat.le_refl _) (Nat.le_refl _))
      have hk : dwI M2 (b + 54) 89 = dwI M1 (b + 54) 89 := f2.i (by have := hf.n; omega) (fun q => by unfold sRow at q; omega)
      unfold yrP at es
      rw [if_pos hz] at es
      have go : L_X10_yearBy_19 (b + 54) (Int32.ofNat n) q (fun (M6 : dwSt) => some ((), M6)) (f + 1) (Int32.ofNat i) M1 = L_X10_yearBy_19 (b + 54) (Int32.ofNat n) q (fun (M6 : dwSt) => some ((), M6)) f (Int32.ofNat (i + 1)) M2 := by
        by_cases hp : tP (aT A) = 0
        · simp -implicitDefEqProofs only [L_X10_yearBy_19, i_geF hi (by omega), if_false, ↓gp0_2, ↓gp0_3, ↓gp0_4, ↓gp0_5, ↓gp0_6, ↓gp0_7, ↓gp0_8, ↓gp0_9, ↓gp0_10, ↓gp0_18, ↓gp0_19, ↓gp0_20, ↓gp0_22, ↓gp23_43, ↓gp23_32, ↓gp23_33, ↓gp23_34, ↓gp23_35, ↓gp23_36, ↓gp29_43, ↓gp29_32, ↓gp29_33, ↓gp29_34, ↓gp29_35, ↓gp29_36, ↓gp54_53, ↓gp54_54, ↓gp54_55, ↓gp54_56, ↓gp54_57, ↓gp54_58, ↓gp54_59, ↓gp54_60, ↓gp54_61, ↓gp54_62, ↓gp54_65, ↓gp54_66, ↓gp54_67, ↓gp54_68, ↓gp54_69, ↓gp54_70, ↓gp54_71, ↓gp54_73, ↓gp54_74, ↓gp54_75, ↓gp54_76, ↓gp54_84, ↓gp54_85, ↓gp54_87, ↓gp54_88, ↓xr59, kr59, ↓xr67, kr67, ↓xr75, kr75, ↓xr82, kr82, ↓xr89, kr89, ↓xr102, kr102, ↓xr115, kr115, ↓xr276, kr276, ↓xr437, kr437, ↓xr444, kr444, ↓xr453, kr453, ↓xr536, kr536, ↓xr553, kr553, hs0, hw0, hs1, hw1, hs2, hw2, hs3, hw3, hs4, hw4, hs5, hw5, hs6, hw6, hs7, hw7, hs8, hw8, hs9, hw9, hs10, hw10, hs11, hw11, hs12, hw12, hs13, hw13, hs14, hw14, hs15, hw15, hs16, hw16, hs17, hw17, hs18, hw18, hs19, hw19, hs20, hw20, hs21, hw21, hs22, hw22, hs23, hw23, hs25, hw25, hs26, hw26, hs27, hw27, hs28, hw28, hs9b, hw9b, hs10b, hw10b, kd0, kd20, kd21, kd22, kd23, kd24, kd25, kd26, kd27, kd28, kd29, kd30, kd31, kd32, kd33, kd34, kd35, kd36, kd37, kd38, kd39, kd40, kd41, kd42, kd54, kd55, kd56, kd57, kd58, kd59, kd67, kd75, kd82, kd89, kd102, kd115, kd276, kd437, kd444, kd451, kd452, kd453, kd534, kd535, kd536, kd553, kd557, kd558, kd559, kd560, kd561, ↓xgI_u, ↓xpI_u, ↓xaI_u, ↓xsI_u, ↓xrk_u, ↓xrk0_u, ↓xob_v, ↓xmb_v, ↓xth_v, ↓xth_x, ↓jn_u, ↓xlen_u, ↓xaL_u, ↓xsL_u, ↓xbl_0, ↓xbl_1, eq_self, inb_n, inb_d, Sh_PI, Sh_PL, dk_PI, dk_PL, dr_PI, dr_PL, ↓reduceIte, Int32.reduceLE, Int32.reduceLT, Int32.reduceToNatClampNeg, Nat.reduceLT, Nat.reduceLeDiff, Nat.reduceEqDiff, Nat.reduceAdd, Nat.reduceMul, hs1, ht1.1, hp, i_zero, Int32.le_refl, if_true, u, i_succ]
        · have hj : tJ (aT A) = 0 := hz.resolve_right hp
          simp -implicitDefEqProofs only [L_X10_yearBy_19, i_geF hi (by omega), if_false, ↓gp0_2, ↓gp0_3, ↓gp0_4, ↓gp0_5, ↓gp0_6, ↓gp0_7, ↓gp0_8, ↓gp0_9, ↓gp0_10, ↓gp0_18, ↓gp0_19, ↓gp0_20, ↓gp0_22, ↓gp23_43, ↓gp23_32, ↓gp23_33, ↓gp23_34, ↓gp23_35, ↓gp23_36, ↓gp29_43, ↓gp29_32, ↓gp29_33, ↓gp29_34, ↓gp29_35, ↓gp29_36, ↓gp54_53, ↓gp54_54, ↓gp54_55, ↓gp54_56, ↓gp54_57, ↓gp54_58, ↓gp54_59, ↓gp54_60, ↓gp54_61, ↓gp54_62, ↓gp54_65, ↓gp54_66, ↓gp54_67, ↓gp54_68, ↓gp54_69, ↓gp54_70, ↓gp54_71, ↓gp54_73, ↓gp54_74, ↓gp54_75, ↓gp54_76, ↓gp54_84, ↓gp54_85, ↓gp54_87, ↓gp54_88, ↓xr59, kr59, ↓xr67, kr67, ↓xr75, kr75, ↓xr82, kr82, ↓xr89, kr89, ↓xr102, kr102, ↓xr115, kr115, ↓xr276, kr276, ↓xr437, kr437, ↓xr444, kr444, ↓xr453, kr453, ↓xr536, kr536, ↓xr553, kr553, hs0, hw0, hs1, hw1, hs2, hw2, hs3, hw3, hs4, hw4, hs5, hw5, hs6, hw6, hs7, hw7, hs8, hw8, hs9, hw9, hs10, hw10, hs11, hw11, hs12, hw12, hs13, hw13, hs14, hw14, hs15, hw15, hs16, hw16, hs17, hw17, hs18, hw18, hs19, hw19, hs20, hw20, hs21, hw21, hs22, hw22, hs23, hw23, hs25, hw25, hs26, hw26, hs27, hw27, hs28, hw28, hs9b, hw9b, hs10b, hw10b, kd0, kd20, kd21, kd22, kd23, kd24, kd25, kd26, kd27, kd28, kd29, kd30, kd31, kd32, kd33, kd34, kd35, kd36, kd37, kd38, kd39, kd40, kd41, kd42, kd54, kd55, kd56, kd57, kd58, kd59, kd67, kd75, kd82, kd89, kd102, kd115, kd276, kd437, kd444, kd451, kd452, kd453, kd534, kd535, kd536, kd553, kd557, kd558, kd559, kd560, kd561, ↓xgI_u, ↓xpI_u, ↓xaI_u, ↓xsI_u, ↓xrk_u, ↓xrk0_u, ↓xob_v, ↓xmb_v, ↓xth_v, ↓xth_x, ↓jn_u, ↓xlen_u, ↓xaL_u, ↓xsL_u, ↓xbl_0, ↓xbl_1, eq_self, inb_n, inb_d, Sh_PI, Sh_PL, dk_PI, dk_PL, dr_PI, dr_PL, ↓reduceIte, Int32.reduceLE, Int32.reduceLT, Int32.reduceToNatClampNeg, Nat.reduceLT, Nat.reduceLeDiff, Nat.reduceEqDiff, Nat.reduceAdd, Nat.reduceMul, hs1, ht1.1, ht1.2.1, i_le0 (show 0 < tP (aT A) by omega) (by omega), hj, i_zero, Int32.le_refl, if_true, u, i_succ]
      rw [go]
      exact hnx M2 ⟨hf2, by rw [es, h2, hr], by rw [es, hk]; exact hl⟩
    · unfold yrP at es
      rw [if_neg hz] at es
      generalize yrS (aT A) (aLw A) q seed (cp79 (aNow A) z) i = X at *
      obtain ⟨d1, k1⟩ := drw_e (ltS X.2) (m := tJ (aT A)) (by omega) (by omega)
      obtain ⟨d2, k2⟩ := drw_e (ltS (ltS X.2)) (m := tP (aT A)) (by omega) (by omega)
      have u1 := t_draw (m := tJ (aT A)) hs1 (by omega) (by omega)
      rw [hl, d1] at u1
      have fA := hf.pI (a := b + 54) (k := 89) (ltS X.2) (in89 M)
      have cA := tinv_s hT fA
      have u2 := t_draw (m := tP (aT A)) cA.1.1 (by omega) (by omega)
      rw [di_eq, d2] at u2
      have fB := fA.pI (a := b + 54) (k := 89) (ltS (ltS X.2)) (in89 M)
      have cB := tinv_s hT fB
      obtain ⟨M3, u3, f3, h3⟩ := t_tells (a := b + 535) cB.e (Or.inr rfl) k1 k2
      rw [di_off (show b + 535 ≠ b + 54 by omega), di_off (show b + 535 ≠ b + 54 by omega), hr] at u3 h3
      have f3' : fr (tSc b) nz 0 0 (dwPI (dwPI M1 (b + 54) 89 (ltS X.2)) (b + 54) 89 (ltS (ltS X.2))) M3 := f3.mono (fun a k q => by unfold sRK at q; unfold tSc; omega) (fun _ _ q => q) (Nat.le_refl _) (Nat.le_refl _)
      have fC := fB.t0 f3'
      have cC := tinv_s hT fC
      have l3 : dwI M3 (b + 54) 89 = ltS (ltS X.2) := (f3.i (by show b + 54 < dwN M1; have := hf.n; omega) (fun q => by unfold sRK at q; omega)).trans di_eq
      have u4 : m_X10_draw M3 (b + 54) 16 = _ := t_draw (m := 16) cC.1.1 (by omega) (by omega)
      rw [l3, show (Int32.ofNat 16) = (16 : Int32) from rfl] at u4
      have fD := fC.pI (a := b + 54) (k := 89) (ltS (ltS (ltS X.2))) (in89 M)
      have cD := tinv_s hT fD
      have rD : dwI (dwPI M3 (b + 54) 89 (ltS (ltS (ltS X.2)))) (b + 535) = _ := (di_off (show b + 535 ≠ b + 54 by omega)).trans h3
      have lD : dwI (dwPI M3 (b + 54) 89 (ltS (ltS (ltS X.2)))) (b + 54) 89 = ltS (ltS (ltS X.2)) := di_eq
      by_cases hq : q ≤ drwV (ltS (ltS (ltS X.2))) 16
      · rw [if_pos hq] at es
        obtain ⟨M5, u5, f5, h5⟩ := t_dayEnds (a := b + 535) cD.1.1 cD.1.2.1 (Or.inr rfl)
        have l5 : dwI M5 (b + 54) 89 = ltS (ltS (ltS X.2)) := (f5.i (by show b + 54 < dwN M3; have := fC.n; omega) (fun q => by unfold sRow at q; omega)).trans lD
        simp -implicitDefEqProofs only [L_X10_yearBy_19, i_geF hi (by omega), if_false, ↓gp0_2, ↓gp0_3, ↓gp0_4, ↓gp0_5, ↓gp0_6, ↓gp0_7, ↓gp0_8, ↓gp0_9, ↓gp0_10, ↓gp0_18, ↓gp0_19, ↓gp0_20, ↓gp0_22, ↓gp23_43, ↓gp23_32, ↓gp23_33, ↓gp23_34, ↓gp23_35, ↓gp23_36, ↓gp29_43, ↓gp29_32, ↓gp29_33, ↓gp29_34, ↓gp29_35, ↓gp29_36, ↓gp54_53, ↓gp54_54, ↓gp54_55, ↓gp54_56, ↓gp54_57, ↓gp54_58, ↓gp54_59, ↓gp54_60, ↓gp54_61, ↓gp54_62, ↓gp54_65, ↓gp54_66, ↓gp54_67, ↓gp54_68, ↓gp54_69, ↓gp54_70, ↓gp54_71, ↓gp54_73, ↓gp54_74, ↓gp54_75, ↓gp54_76, ↓gp54_84, ↓gp54_85, ↓gp54_87, ↓gp54_88, ↓xr59, kr59, ↓xr67, kr67, ↓xr75, kr75, ↓xr82, kr82, ↓xr89, kr89, ↓xr102, kr102, ↓xr115, kr115, ↓xr276, kr276, ↓xr437, kr437, ↓xr444, kr444, ↓xr453, kr453, ↓xr536, kr536, ↓xr553, kr553, hs0, hw0, hs1, hw1, hs2, hw2, hs3, hw3, hs4, hw4, hs5, hw5, hs6, hw6, hs7, hw7, hs8, hw8, hs9, hw9, hs10, hw10, hs11, hw11, hs12, hw12, hs13, hw13, hs14, hw14, hs15, hw15, hs16, hw16, hs17, hw17, hs18, hw18, hs19, hw19, hs20, hw20, hs21, hw21, hs22, hw22, hs23, hw23, hs25, hw25, hs26, hw26, hs27, hw27, hs28, hw28, hs9b, hw9b, hs10b, hw10b, kd0, kd20, kd21, kd22, kd23, kd24, kd25, kd26, kd27, kd28, kd29, kd30, kd31, kd32, kd33, kd34, kd35, kd36, kd37, kd38, kd39, kd40, kd41, kd42, kd54, kd55, kd56, kd57, kd58, kd59, kd67, kd75, kd82, kd89, kd102, kd115, kd276, kd437, kd444, kd451, kd452, kd453, kd534, kd535, kd536, kd553, kd557, kd558, kd559, kd560, kd561, ↓xgI_u, ↓xpI_u, ↓xaI_u, ↓xsI_u, ↓xrk_u, ↓xrk0_u, ↓xob_v, ↓xmb_v, ↓xth_v, ↓xth_x, ↓jn_u, ↓xlen_u, ↓xaL_u, ↓xsL_u, ↓xbl_0, ↓xbl_1, eq_self, inb_n, inb_d, Sh_PI, Sh_PL, dk_PI, dk_PL, dr_PI, dr_PL, ↓reduceIte, Int32.reduceLE, Int32.reduceLT, Int32.reduceToNatClampNeg, Nat.reduceLT, Nat.reduceLeDiff, Nat.reduceEqDiff, Nat.reduceAdd, Nat.reduceMul, hs1, cA.1.1, cB.1.1, cC.1.1, cD.1.1, ht1.1, ht1.2.1, cA.1.2.1.1, i_le0 (show 0 < tJ (aT A) by omega) (by omega), i_le0 (show 0 < tP (aT A) by omega) (by omega), u1, u2, u3, u4, hq, if_true, u5, i_succ]
        exact hnx M5 ⟨fD.t0 (f5.mono sRow_s (fun _ _ q => q) (Nat.le_refl _) (Nat.le_refl _)), by rw [es, h5, rD], by rw [es]; exact l5⟩
      · rw [if_neg hq] at es
        obtain ⟨M4, u6, f6, h6⟩ := t_grieves (n := 3) (kd535 cD.1.1) (show drwN (ltS (ltS X.2)) (tP (aT A)) < 7 by omega)
        rw [rD] at u6 h6
        have fE := fD.t0 (f6.mono (S' := tSc b) sRow_s (fun _ _ q => q) (Nat.le_refl _) (Nat.le_refl _))
        have cE := tinv_s hT fE
        obtain ⟨M5, u5, f5, h5⟩ := t_dayEnds (a := b + 535) cE.1.1 cE.1.2.1 (Or.inr rfl)
        have l4 : dwI M4 (b + 54) 89 = ltS (ltS (ltS X.2)) := (f6.i (by show b + 54 < dwN M3; have := fC.n; omega) (fun q => by unfold sRow at q; omega)).trans lD
        have l5 : dwI M5 (b + 54) 89 = ltS (ltS (ltS X.2)) := (f5.i (by have := fE.n; omega) (fun q => by unfold sRow at q; omega)).trans l4
        simp -implicitDefEqProofs only [L_X10_yearBy_19, i_geF hi (by omega), if_false, ↓gp0_2, ↓gp0_3, ↓gp0_4, ↓gp0_5, ↓gp0_6, ↓gp0_7, ↓gp0_8, ↓gp0_9, ↓gp0_10, ↓gp0_18, ↓gp0_19, ↓gp0_20, ↓gp0_22, ↓gp23_43, ↓gp23_32, ↓gp23_33, ↓gp23_34, ↓gp23_35, ↓gp23_36, ↓gp29_43, ↓gp29_32, ↓gp29_33, ↓gp29_34, ↓gp29_35, ↓gp29_36, ↓gp54_53, ↓gp54_54, ↓gp54_55, ↓gp54_56, ↓gp54_57, ↓gp54_58, ↓gp54_59, ↓gp54_60, ↓gp54_61, ↓gp54_62, ↓gp54_65, ↓gp54_66, ↓gp54_67, ↓gp54_68, ↓gp54_69, ↓gp54_70, ↓gp54_71, ↓gp54_73, ↓gp54_74, ↓gp54_75, ↓gp54_76, ↓gp54_84, ↓gp54_85, ↓gp54_87, ↓gp54_88, ↓xr59, kr59, ↓xr67, kr67, ↓xr75, kr75, ↓xr82, kr82, ↓xr89, kr89, ↓xr102, kr102, ↓xr115, kr115, ↓xr276, kr276, ↓xr437, kr437, ↓xr444, kr444, ↓xr453, kr453, ↓xr536, kr536, ↓xr553, kr553, hs0, hw0, hs1, hw1, hs2, hw2, hs3, hw3, hs4, hw4, hs5, hw5, hs6, hw6, hs7, hw7, hs8, hw8, hs9, hw9, hs10, hw10, hs11, hw11, hs12, hw12, hs13, hw13, hs14, hw14, hs15, hw15, hs16, hw16, hs17, hw17, hs18, hw18, hs19, hw19, hs20, hw20, hs21, hw21, hs22, hw22, hs23, hw23, hs25, hw25, hs26, hw26, hs27, hw27, hs28, hw28, hs9b, hw9b, hs10b, hw10b, kd0, kd20, kd21, kd22, kd23, kd24, kd25, kd26, kd27, kd28, kd29, kd30, kd31, kd32, kd33, kd34, kd35, kd36, kd37, kd38, kd39, kd40, kd41, kd42, kd54, kd55, kd56, kd57, kd58, kd59, kd67, kd75, kd82, kd89, kd102, kd115, kd276, kd437, kd444, kd451, kd452, kd453, kd534, kd535, kd536, kd553, kd557, kd558, kd559, kd560, kd561, ↓xgI_u, ↓xpI_u, ↓xaI_u, ↓xsI_u, ↓xrk_u, ↓xrk0_u, ↓xob_v, ↓xmb_v, ↓xth_v, ↓xth_x, ↓jn_u, ↓xlen_u, ↓xaL_u, ↓xsL_u, ↓xbl_0, ↓xbl_1, eq_self, inb_n, inb_d, Sh_PI, Sh_PL, dk_PI, dk_PL, dr_PI, dr_PL, ↓reduceIte, Int32.reduceLE, Int32.reduceLT, Int32.reduceToNatClampNeg, Nat.reduceLT, Nat.reduceLeDiff, Nat.reduceEqDiff, Nat.reduceAdd, Nat.reduceMul, hs1, cA.1.1, cB.1.1, cC.1.1, cD.1.1, cE.1.1, ht1.1, ht1.2.1, cA.1.2.1.1, i_le0 (show 0 < tJ (aT A) by omega) (by omega), i_le0 (show 0 < tP (aT A) by omega) (by omega), u1, u2, u3, u4, hq, u6, u5, i_succ]
        exact hnx M5 ⟨fE.t0 (f5.mono sRow_s (fun _ _ q => q) (Nat.le_refl _) (Nat.le_refl _)), by rw [es, h5, h6], by rw [es]; exact l5⟩
  · rw [di_off (by omega)]; exact h0
end CALL
