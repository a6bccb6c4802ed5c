theorem x_c7 (p : Nat) : (7 : Int32) + Int32.ofNat p = Int32.ofNat (7 + p) := i_add 7 p
theorem x_c14 (p : Nat) : (14 : Int32) + Int32.ofNat p = Int32.ofNat (14 + p) := i_add 14 p
theorem x_c21 (p : Nat) : (21 : Int32) + Int32.ofNat p = Int32.ofNat (21 + p) := i_add 21 p
theorem x_c28 (p : Nat) : (28 : Int32) + Int32.ofNat p = Int32.ofNat (28 + p) := i_add 28 p
theorem x_s1 (n : Nat) : Int32.ofNat (n + 1) - 1 = Int32.ofNat n := by
  rw [← i_succ, Int32.add_sub_cancel]
theorem x_m1 (n : Nat) : Int32.ofNat (n + 1) + (-1) = Int32.ofNat n := by
  rw [← Int32.sub_eq_add_neg, x_s1]
theorem x_div1 (a : Int32) : a / (-1) = -a := by
  apply Int32.toInt.inj
  rw [Int32.toInt_div, show (-1 : Int32).toInt = -1 from rfl, Int.tdiv_neg, Int.tdiv_one, Int32.toInt_neg]
theorem x_rem1 (a : Int32) : a - a / (-1) * (-1) = 0 := by
  rw [x_div1, Int32.mul_neg, Int32.mul_one, Int32.neg_neg, Int32.sub_self]
def sSt (b : Nat) : Nat → Nat → Prop := fun a _ => a = b + 451
section TWIN
variable {b : Nat} {M : dwSt} {T : dvT} {lw : (Nat → Int32) → Int32}
theorem t_by (o u v : Int32) : m_X10_by o u v = some (opS o u v) := by
  unfold m_X10_by opS
  by_cases h2 : o = 2
  · rw [if_pos h2, if_pos h2]
  by_cases h3 : o = 3
  · rw [if_neg h2, if_neg h2, if_pos h3, if_pos h3]
  by_cases h4 : o = 4
  · rw [if_neg h2, if_neg h2, if_neg h3, if_neg h3, if_pos h4, if_pos h4]
  by_cases h5 : o = 5
  · rw [if_neg h2, if_neg h2, if_neg h3, if_neg h3, if_neg h4, if_neg h4, if_pos h5, if_pos h5]
    by_cases e : v = 0
    · rw [if_pos e, if_pos e]
    · rw [if_neg e, if_neg e]
      by_cases e1 : v = -1
      · rw [if_pos e1, e1, x_div1]
      · rw [if_neg e1, xdiv_u (eq_false e)]
  by_cases h6 : o = 6
  · rw [if_neg h2, if_neg h2, if_neg h3, if_neg h3, if_neg h4, if_neg h4, if_neg h5, if_neg h5, if_pos h6, if_pos h6]
    by_cases e : v = 0
    · rw [if_pos e, if_pos e]
    · rw [if_neg e, if_neg e]
      by_cases e1 : v = -1
      · rw [if_pos e1, e1, x_rem1]
      · rw [if_neg e1, xrem_u (eq_false e)]
  rw [if_neg h2, if_neg h2, if_neg h3, if_neg h3, if_neg h4, if_neg h4, if_neg h5, if_neg h5, if_neg h6, if_neg h6, t_more, t_less]
  by_cases h7 : o = 7
  · rw [if_pos h7, if_pos h7]; rfl
  · rw [if_neg h7, if_neg h7]; rfl
theorem tmv_len {f : Nat → Int32} : ∀ (d : Nat) (cs : List (Int32 × Int32)) (v : Int32), tmv f d cs v → 1 ≤ cs.length := by
  intro d cs v h
  cases d with
  | zero => exact False.elim h
  | succ d =>
    rcases h with e | ⟨w, hw, e, ev⟩ | ⟨o, c1, c2, v1, v2, ho, t1, t2, e, ev⟩
    · subst e; exact Nat.le_refl _
    · subst e; exact Nat.le_refl _
    · subst e; rw [List.length_append, List.length_singleton]; omega
theorem t_blw {ρ : Type} {k : dwSt → Option ρ} {f : Nat → Int32} : ∀ (d : Nat) (cs : List (Int32 × Int32)) (v : Int32), tmv f d cs v → ∀ (M : dwSt) (n s fu N : Nat), Sh b M → (∀ k, k < 10 → dwI M (b + 452) k = f k) → dwI M (b + 54) 63 = Int32.ofNat N → N ≤ 160 → (∀ i x, cs[i]? = some x → dwI M (b + 116 + (s + i)) 0 = x.1 ∧ dwI M (b + 116 + (s + i)) 1 = x.2) → s + cs.length ≤ N → n + cs.length ≤ 160 → ∃ M', fr (sSt b) nz 0 0 M M' ∧ dwI M' (b + 451) n = v ∧ (∀ i, i < n → dwI M' (b + 451) i = dwI M (b + 451) i) ∧ L_X10_byLaw_41 (b + 54) k (fu + cs.length) (Int32.ofNat n) (Int32.ofNat s) M = L_X10_byLaw_41 (b + 54) k fu (Int32.ofNat (n + 1)) (Int32.ofNat (s + cs.length)) M' := by
  intro d
  induction d with
  | zero => intro cs v h; exact False.elim h
  | succ d ih =>
    intro cs v h M n s fu N hs hf hN hN160 hc hsl hnl
    rcases h with e | ⟨w, hw, e, ev⟩ | ⟨o, c1, c2, v1, v2, ho, t1, t2, e, ev⟩
    · subst e
      obtain ⟨e0, e1⟩ := hc 0 _ rfl
      simp only [List.length_singleton, Nat.add_zero] at hsl hnl e0 e1
      have hs160 : s < 160 := by omega
      have hn160 : n < 160 := by omega
      refine ⟨dwPI M (b + 451) n v, (fr.refl M).pI v (Or.inl rfl), by simp only [di_PI, and_self, if_true], fun i hi => by simp only [di_PI]; rw [if_neg (by omega)], ?_⟩
      simp only [List.length_singleton]
      rw [L_X10_byLaw_41]
      simp only [↓gp0_2, ↓gp0_3, ↓gp0_4, ↓gp0_5, ↓gp0_6, ↓gp0_7, ↓gp0_8, ↓gp0_9, ↓gp0_10, ↓gp0_18, ↓gp0_19, ↓gp0_20, ↓gp0_22, ↓gp23_43, ↓gp23_32, ↓gp23_33, ↓gp23_34, ↓gp23_35, ↓gp23_36, ↓gp29_43, ↓gp29_32, ↓gp29_33, ↓gp29_34, ↓gp29_35, ↓gp29_36, ↓gp54_53, ↓gp54_54, ↓gp54_55, ↓gp54_56, ↓gp54_57, ↓gp54_58, ↓gp54_59, ↓gp54_60, ↓gp54_61, ↓gp54_62, ↓gp54_65, ↓gp54_66, ↓gp54_67, ↓gp54_68, ↓gp54_69, ↓gp54_70, ↓gp54_71, ↓gp54_73, ↓gp54_74, ↓gp54_75, ↓gp54_76, ↓gp54_84, ↓gp54_85, ↓gp54_87, ↓gp54_88, ↓xr59, kr59, ↓xr67, kr67, ↓xr75, kr75, ↓xr82, kr82, ↓xr89, kr89, ↓xr102, kr102, ↓xr115, kr115, ↓xr276, kr276, ↓xr437, kr437, ↓xr444, kr444, ↓xr453, kr453, ↓xr536, kr536, ↓xr553, kr553, hs0, hw0, hs1, hw1, hs2, hw2, hs3, hw3, hs4, hw4, hs5, hw5, hs6, hw6, hs7, hw7, hs8, hw8, hs9, hw9, hs10, hw10, hs11, hw11, hs12, hw12, hs13, hw13, hs14, hw14, hs15, hw15, hs16, hw16, hs17, hw17, hs18, hw18, hs19, hw19, hs20, hw20, hs21, hw21, hs22, hw22, hs23, hw23, hs25, hw25, hs26, hw26, hs27, hw27, hs28, hw28, hs9b, hw9b, hs10b, hw10b, kd0, kd20, kd21, kd22, kd23, kd24, kd25, kd26, kd27, kd28, kd29, kd30, kd31, kd32, kd33, kd34, kd35, kd36, kd37, kd38, kd39, kd40, kd41, kd42, kd54, kd55, kd56, kd57, kd58, kd59, kd67, kd75, kd82, kd89, kd102, kd115, kd276, kd437, kd444, kd451, kd452, kd453, kd534, kd535, kd536, kd553, kd557, kd558, kd559, kd560, kd561, ↓xgI_u, ↓xpI_u, ↓xaI_u, ↓xsI_u, ↓xrk_u, ↓xrk0_u, ↓xob_v, ↓xmb_v, ↓xth_v, ↓xth_x, ↓jn_u, ↓xlen_u, ↓xaL_u, ↓xsL_u, ↓xbl_0, ↓xbl_1, eq_self, inb_n, inb_d, Sh_PI, Sh_PL, dk_PI, dk_PL, dr_PI, dr_PL, ↓reduceIte, Int32.reduceLE, Int32.reduceLT, Int32.reduceToNatClampNeg, Nat.reduceLT, Nat.reduceLeDiff, Nat.reduceEqDiff, Nat.reduceAdd, Nat.reduceMul, hs, hN, i_geF (show s < N by omega) (by omega), if_false, hs160, e0, show ((2 : Int32) ≤ 0) = False from eq_false (by decide), e1, if_true, hn160, i_nat (show n < 2147483648 by omega), i_succ]
    · subst e
      obtain ⟨e0, e1⟩ := hc 0 _ rfl
      simp only [List.length_singleton, Nat.add_zero] at hsl hnl e0 e1
      have hs160 : s < 160 := by omega
      have hn160 : n < 160 := by omega
      refine ⟨dwPI M (b + 451) n v, (fr.refl M).pI v (Or.inl rfl), by simp only [di_PI, and_self, if_true], fun i hi => by simp only [di_PI]; rw [if_neg (by omega)], ?_⟩
      simp only [List.length_singleton]
      rw [L_X10_byLaw_41]
      simp only [↓gp0_2, ↓gp0_3, ↓gp0_4, ↓gp0_5, ↓gp0_6, ↓gp0_7, ↓gp0_8, ↓gp0_9, ↓gp0_10, ↓gp0_18, ↓gp0_19, ↓gp0_20, ↓gp0_22, ↓gp23_43, ↓gp23_32, ↓gp23_33, ↓gp23_34, ↓gp23_35, ↓gp23_36, ↓gp29_43, ↓gp29_32, ↓gp29_33, ↓gp29_34, ↓gp29_35, ↓gp29_36, ↓gp54_53, ↓gp54_54, ↓gp54_55, ↓gp54_56, ↓gp54_57, ↓gp54_58, ↓gp54_59, ↓gp54_60, ↓gp54_61, ↓gp54_62, ↓gp54_65, ↓gp54_66, ↓gp54_67, ↓gp54_68, ↓gp54_69, ↓gp54_70, ↓gp54_71, ↓gp54_73, ↓gp54_74, ↓gp54_75, ↓gp54_76, ↓gp54_84, ↓gp54_85, ↓gp54_87, ↓gp54_88, ↓xr59, kr59, ↓xr67, kr67, ↓xr75, kr75, ↓xr82, kr82, ↓xr89, kr89, ↓xr102, kr102, ↓xr115, kr115, ↓xr276, kr276, ↓xr437, kr437, ↓xr444, kr444, ↓xr453, kr453, ↓xr536, kr536, ↓xr553, kr553, hs0, hw0, hs1, hw1, hs2, hw2, hs3, hw3, hs4, hw4, hs5, hw5, hs6, hw6, hs7, hw7, hs8, hw8, hs9, hw9, hs10, hw10, hs11, hw11, hs12, hw12, hs13, hw13, hs14, hw14, hs15, hw15, hs16, hw16, hs17, hw17, hs18, hw18, hs19, hw19, hs20, hw20, hs21, hw21, hs22, hw22, hs23, hw23, hs25, hw25, hs26, hw26, hs27, hw27, hs28, hw28, hs9b, hw9b, hs10b, hw10b, kd0, kd20, kd21, kd22, kd23, kd24, kd25, kd26, kd27, kd28, kd29, kd30, kd31, kd32, kd33, kd34, kd35, kd36, kd37, kd38, kd39, kd40, kd41, kd42, kd54, kd55, kd56, kd57, kd58, kd59, kd67, kd75, kd82, kd89, kd102, kd115, kd276, kd437, kd444, kd451, kd452, kd453, kd534, kd535, kd536, kd553, kd557, kd558, kd559, kd560, kd561, ↓xgI_u, ↓xpI_u, ↓xaI_u, ↓xsI_u, ↓xrk_u, ↓xrk0_u, ↓xob_v, ↓xmb_v, ↓xth_v, ↓xth_x, ↓jn_u, ↓xlen_u, ↓xaL_u, ↓xsL_u, ↓xbl_0, ↓xbl_1, eq_self, inb_n, inb_d, Sh_PI, Sh_PL, dk_PI, dk_PL, dr_PI, dr_PL, ↓reduceIte, Int32.reduceLE, Int32.reduceLT, Int32.reduceToNatClampNeg, Nat.reduceLT, Nat.reduceLeDiff, Nat.reduceEqDiff, Nat.reduceAdd, Nat.reduceMul, hs, hN, i_geF (show s < N by omega) (by omega), if_false, hs160, e0, show ((2 : Int32) ≤ 1) = False from eq_false (by decide), show ((1 : Int32) = 0) = False from eq_false (by decide), e1, hw, i_nat (show w < 2147483648 by omega), hf w hw, hn160, i_nat (show n < 2147483648 by omega), i_succ, ev]
    · subst e
      simp only [List.length_append, List.length_singleton] at hsl hnl
      obtain ⟨M1, f1, g1, k1, r1⟩ := ih c1 v1 t1 M n s (fu + 1 + c2.length) N hs hf hN hN160 (fun i x hx => hc i x (by
        have hi : i < c1.length := (List.getElem?_eq_some_iff.mp hx).1
        rw [List.append_assoc, List.getElem?_append_left hi]; exact hx)) (by omega) (by omega)
      have l1 := tmv_len _ _ _ t1
      have l2 := tmv_len _ _ _ t2
      have hnM := shN hs
      have hs1 : Sh b M1 := hs.fr f1 nz_p
      have q1 : ∀ a k, b + 54 ≤ a → a ≤ b + 452 → a ≠ b + 451 → dwI M1 a k = dwI M a k := fun a k h1 h2 h3 => f1.i (by omega) h3
      obtain ⟨M2, f2, g2, k2, r2⟩ := ih c2 v2 t2 M1 (n + 1) (s + c1.length) (fu + 1) N hs1 (fun k hk => (q1 _ _ (by omega) (by omega) (by omega)).trans (hf k hk)) ((q1 _ _ (by omega) (by omega) (by omega)).trans hN) hN160 (fun i x hx => by
        have hi : i < c2.length := (List.getElem?_eq_some_iff.mp hx).1
        have := hc (c1.length + i) x (by
          rw [List.append_assoc, List.getElem?_append_right (by omega), Nat.add_sub_cancel_left, List.getElem?_append_left hi]; exact hx)
        rw [q1 _ _ (by omega) (by omega) (by omega), q1 _ _ (by omega) (by omega) (by omega), Nat.add_assoc s]
        exact this) (by omega) (by omega)
      have hs2 : Sh b M2 := hs1.fr f2 nz_p
      have q2 : ∀ a k, b + 54 ≤ a → a ≤ b + 452 → a ≠ b + 451 → dwI M2 a k = dwI M a k := fun a k h1 h2 h3 => (f2.i (by have := f1.n; omega) h3).trans (q1 a k h1 h2 h3)
      have hq := hc (c1.length + c2.length) (o, 0) (by rw [List.getElem?_append_right (by rw [List.length_append]; omega), List.length_append, Nat.sub_self]; rfl)
      obtain ⟨e0, -⟩ := hq
      rw [← q2 _ _ (by omega) (by omega) (by omega), ← Nat.add_assoc s] at e0
      have ho2 : ((2 : Int32) ≤ o) = True := eq_true ho.1
      have hs160 : s + c1.length + c2.length < 160 := by omega
      have hn160 : n < 160 := by omega
      have hn161 : n + 1 < 160 := by omega
      have g1' : dwI M2 (b + 451) n = v1 := (k2 n (by omega)).trans g1
      refine ⟨dwPI M2 (b + 451) n v, (f1.t0 f2).pI v (Or.inl rfl), by simp only [di_PI, and_self, if_true], fun i hi => by simp only [di_PI]; rw [if_neg (by omega), k2 i (by omega), k1 i hi], ?_⟩
      rw [List.length_append, List.length_append, List.length_singleton, show fu + (c1.length + c2.length + 1) = fu + 1 + c2.length + c1.length by omega, r1, r2, L_X10_byLaw_41]
      simp only [↓gp0_2, ↓gp0_3, ↓gp0_4, ↓gp0_5, ↓gp0_6, ↓gp0_7, ↓gp0_8, ↓gp0_9, ↓gp0_10, ↓gp0_18, ↓gp0_19, ↓gp0_20, ↓gp0_22, ↓gp23_43, ↓gp23_32, ↓gp23_33, ↓gp23_34, ↓gp23_35, ↓gp23_36, ↓gp29_43, ↓gp29_32, ↓gp29_33, ↓gp29_34, ↓gp29_35, ↓gp29_36, ↓gp54_53, ↓gp54_54, ↓gp54_55, ↓gp54_56, ↓gp54_57, ↓gp54_58, ↓gp54_59, ↓gp54_60, ↓gp54_61, ↓gp54_62, ↓gp54_65, ↓gp54_66, ↓gp54_67, ↓gp54_68, ↓gp54_69, ↓gp54_70, ↓gp54_71, ↓gp54_73, ↓gp54_74, ↓gp54_75, ↓gp54_76, ↓gp54_84, ↓gp54_85, ↓gp54_87, ↓gp54_88, ↓xr59, kr59, ↓xr67, kr67, ↓xr75, kr75, ↓xr82, kr82, ↓xr89, kr89, ↓xr102, kr102, ↓xr115, kr115, ↓xr276, kr276, ↓xr437, kr437, ↓xr444, kr444, ↓xr453, kr453, ↓xr536, kr536, ↓xr553, kr553, hs0, hw0, hs1, hw1, hs2, hw2, hs3, hw3, hs4, hw4, hs5, hw5, hs6, hw6, hs7, hw7, hs8, hw8, hs9, hw9, hs10, hw10, hs11, hw11, hs12, hw12, hs13, hw13, hs14, hw14, hs15, hw15, hs16, hw16, hs17, hw17, hs18, hw18, hs19, hw19, hs20, hw20, hs21, hw21, hs22, hw22, hs23, hw23, hs25, hw25, hs26, hw26, hs27, hw27, hs28, hw28, hs9b, hw9b, hs10b, hw10b, kd0, kd20, kd21, kd22, kd23, kd24, kd25, kd26, kd27, kd28, kd29, kd30, kd31, kd32, kd33, kd34, kd35, kd36, kd37, kd38, kd39, kd40, kd41, kd42, kd54, kd55, kd56, kd57, kd58, kd59, kd67, kd75, kd82, kd89, kd102, kd115, kd276, kd437, kd444, kd451, kd452, kd453, kd534, kd535, kd536, kd553, kd557, kd558, kd559, kd560, kd561, ↓xgI_u, ↓xpI_u, ↓xaI_u, ↓xsI_u, ↓xrk_u, ↓xrk0_u, ↓xob_v, ↓xmb_v, ↓xth_v, ↓xth_x, ↓jn_u, ↓xlen_u, ↓xaL_u, ↓xsL_u, ↓xbl_0, ↓xbl_1, eq_self, inb_n, inb_d, Sh_PI, Sh_PL, dk_PI, dk_PL, dr_PI, dr_PL, ↓reduceIte, Int32.reduceLE, Int32.reduceLT, Int32.reduceToNatClampNeg, Nat.reduceLT, Nat.reduceLeDiff, Nat.reduceEqDiff, Nat.reduceAdd, Nat.reduceMul, hs2, (q2 _ _ (by omega) (by omega) (by omega)).trans hN, i_geF (show s + c1.length + c2.length < N by omega) (by omega), if_false, hs160, e0, ho2, if_true, x_m1, x_s1, hn160, hn161, i_nat (show n < 2147483648 by omega), i_nat (show n + 1 < 2147483648 by omega), g1', g2, t_by, i_succ, ← ev, show s + (c1.length + c2.length + 1) = s + c1.length + c2.length + 1 by omega]
theorem t_byLaw (hs : Sh b M) (hL : tLaw b M lw) : ∃ M', m_X10_byLaw M (b + 54) = some (clampS (lw (dwI M (b + 452))), M') ∧ fr (sSt b) nz 0 0 M M' := by
  obtain ⟨-, cs, h1, h2, h3, h4⟩ := hL
  have hn := shN hs
  have h2' : ∀ v : Int32, dwI (dwPI M (b + 451) 0 v) (b + 54) 63 = Int32.ofNat cs.length := fun v => by rw [di_PI, if_neg (by omega)]; exact h2
  rcases h4 with ⟨e, h4⟩ | ⟨d, h4⟩
  · subst e
    refine ⟨dwPI M (b + 451) 0 (lw (dwI M (b + 452))), ?_, (fr.refl M).pI _ (Or.inl rfl)⟩
    simp -implicitDefEqProofs only [m_X10_byLaw, ↓gp0_2, ↓gp0_3, ↓gp0_4, ↓gp0_5, ↓gp0_6, ↓gp0_7, ↓gp0_8, ↓gp0_9, ↓gp0_10, ↓gp0_18, ↓gp0_19, ↓gp0_20, ↓gp0_22, ↓gp23_43, ↓gp23_32, ↓gp23_33, ↓gp23_34, ↓gp23_35, ↓gp23_36, ↓gp29_43, ↓gp29_32, ↓gp29_33, ↓gp29_34, ↓gp29_35, ↓gp29_36, ↓gp54_53, ↓gp54_54, ↓gp54_55, ↓gp54_56, ↓gp54_57, ↓gp54_58, ↓gp54_59, ↓gp54_60, ↓gp54_61, ↓gp54_62, ↓gp54_65, ↓gp54_66, ↓gp54_67, ↓gp54_68, ↓gp54_69, ↓gp54_70, ↓gp54_71, ↓gp54_73, ↓gp54_74, ↓gp54_75, ↓gp54_76, ↓gp54_84, ↓gp54_85, ↓gp54_87, ↓gp54_88, ↓xr59, kr59, ↓xr67, kr67, ↓xr75, kr75, ↓xr82, kr82, ↓xr89, kr89, ↓xr102, kr102, ↓xr115, kr115, ↓xr276, kr276, ↓xr437, kr437, ↓xr444, kr444, ↓xr453, kr453, ↓xr536, kr536, ↓xr553, kr553, hs0, hw0, hs1, hw1, hs2, hw2, hs3, hw3, hs4, hw4, hs5, hw5, hs6, hw6, hs7, hw7, hs8, hw8, hs9, hw9, hs10, hw10, hs11, hw11, hs12, hw12, hs13, hw13, hs14, hw14, hs15, hw15, hs16, hw16, hs17, hw17, hs18, hw18, hs19, hw19, hs20, hw20, hs21, hw21, hs22, hw22, hs23, hw23, hs25, hw25, hs26, hw26, hs27, hw27, hs28, hw28, hs9b, hw9b, hs10b, hw10b, kd0, kd20, kd21, kd22, kd23, kd24, kd25, kd26, kd27, kd28, kd29, kd30, kd31, kd32, kd33, kd34, kd35, kd36, kd37, kd38, kd39, kd40, kd41, kd42, kd54, kd55, kd56, kd57, kd58, kd59, kd67, kd75, kd82, kd89, kd102, kd115, kd276, kd437, kd444, kd451, kd452, kd453, kd534, kd535, kd536, kd553, kd557, kd558, kd559, kd560, kd561, ↓xgI_u, ↓xpI_u, ↓xaI_u, ↓xsI_u, ↓xrk_u, ↓xrk0_u, ↓xob_v, ↓xmb_v, ↓xth_v, ↓xth_x, ↓jn_u, ↓xlen_u, ↓xaL_u, ↓xsL_u, ↓xbl_0, ↓xbl_1, eq_self, inb_n, inb_d, Sh_PI, Sh_PL, dk_PI, dk_PL, dr_PI, dr_PL, ↓reduceIte, Int32.reduceLE, Int32.reduceLT, Int32.reduceToNatClampNeg, Nat.reduceLT, Nat.reduceLeDiff, Nat.reduceEqDiff, Nat.reduceAdd, Nat.reduceMul, hs, h4]
    rw [L_X10_byLaw_41]
    simp only [↓gp0_2, ↓gp0_3, ↓gp0_4, ↓gp0_5, ↓gp0_6, ↓gp0_7, ↓gp0_8, ↓gp0_9, ↓gp0_10, ↓gp0_18, ↓gp0_19, ↓gp0_20, ↓gp0_22, ↓gp23_43, ↓gp23_32, ↓gp23_33, ↓gp23_34, ↓gp23_35, ↓gp23_36, ↓gp29_43, ↓gp29_32, ↓gp29_33, ↓gp29_34, ↓gp29_35, ↓gp29_36, ↓gp54_53, ↓gp54_54, ↓gp54_55, ↓gp54_56, ↓gp54_57, ↓gp54_58, ↓gp54_59, ↓gp54_60, ↓gp54_61, ↓gp54_62, ↓gp54_65, ↓gp54_66, ↓gp54_67, ↓gp54_68, ↓gp54_69, ↓gp54_70, ↓gp54_71, ↓gp54_73, ↓gp54_74, ↓gp54_75, ↓gp54_76, ↓gp54_84, ↓gp54_85, ↓gp54_87, ↓gp54_88, ↓xr59, kr59, ↓xr67, kr67, ↓xr75, kr75, ↓xr82, kr82, ↓xr89, kr89, ↓xr102, kr102, ↓xr115, kr115, ↓xr276, kr276, ↓xr437, kr437, ↓xr444, kr444, ↓xr453, kr453, ↓xr536, kr536, ↓xr553, kr553, hs0, hw0, hs1, hw1, hs2, hw2, hs3, hw3, hs4, hw4, hs5, hw5, hs6, hw6, hs7, hw7, hs8, hw8, hs9, hw9, hs10, hw10, hs11, hw11, hs12, hw12, hs13, hw13, hs14, hw14, hs15, hw15, hs16, hw16, hs17, hw17, hs18, hw18, hs19, hw19, hs20, hw20, hs21, hw21, hs22, hw22, hs23, hw23, hs25, hw25, hs26, hw26, hs27, hw27, hs28, hw28, hs9b, hw9b, hs10b, hw10b, kd0, kd20, kd21, kd22, kd23, kd24, kd25, kd26, kd27, kd28, kd29, kd30, kd31, kd32, kd33, kd34, kd35, kd36, kd37, kd38, kd39, kd40, kd41, kd42, kd54, kd55, kd56, kd57, kd58, kd59, kd67, kd75, kd82, kd89, kd102, kd115, kd276, kd437, kd444, kd451, kd452, kd453, kd534, kd535, kd536, kd553, kd557, kd558, kd559, kd560, kd561, ↓xgI_u, ↓xpI_u, ↓xaI_u, ↓xsI_u, ↓xrk_u, ↓xrk0_u, ↓xob_v, ↓xmb_v, ↓xth_v, ↓xth_x, ↓jn_u, ↓xlen_u, ↓xaL_u, ↓xsL_u, ↓xbl_0, ↓xbl_1, eq_self, inb_n, inb_d, Sh_PI, Sh_PL, dk_PI, dk_PL, dr_PI, dr_PL, ↓reduceIte, Int32.reduceLE, Int32.reduceLT, Int32.reduceToNatClampNeg, Nat.reduceLT, Nat.reduceLeDiff, Nat.reduceEqDiff, Nat.reduceAdd, Nat.reduceMul, hs, h2', List.length_nil, i_zero, Int32.le_refl, if_true]
    simp only [↓gp0_2, ↓gp0_3, ↓gp0_4, ↓gp0_5, ↓gp0_6, ↓gp0_7, ↓gp0_8, ↓gp0_9, ↓gp0_10, ↓gp0_18, ↓gp0_19, ↓gp0_20, ↓gp0_22, ↓gp23_43, ↓gp23_32, ↓gp23_33, ↓gp23_34, ↓gp23_35, ↓gp23_36, ↓gp29_43, ↓gp29_32, ↓gp29_33, ↓gp29_34, ↓gp29_35, ↓gp29_36, ↓gp54_53, ↓gp54_54, ↓gp54_55, ↓gp54_56, ↓gp54_57, ↓gp54_58, ↓gp54_59, ↓gp54_60, ↓gp54_61, ↓gp54_62, ↓gp54_65, ↓gp54_66, ↓gp54_67, ↓gp54_68, ↓gp54_69, ↓gp54_70, ↓gp54_71, ↓gp54_73, ↓gp54_74, ↓gp54_75, ↓gp54_76, ↓gp54_84, ↓gp54_85, ↓gp54_87, ↓gp54_88, ↓xr59, kr59, ↓xr67, kr67, ↓xr75, kr75, ↓xr82, kr82, ↓xr89, kr89, ↓xr102, kr102, ↓xr115, kr115, ↓xr276, kr276, ↓xr437, kr437, ↓xr444, kr444, ↓xr453, kr453, ↓xr536, kr536, ↓xr553, kr553, hs0, hw0, hs1, hw1, hs2, hw2, hs3, hw3, hs4, hw4, hs5, hw5, hs6, hw6, hs7, hw7, hs8, hw8, hs9, hw9, hs10, hw10, hs11, hw11, hs12, hw12, hs13, hw13, hs14, hw14, hs15, hw15, hs16, hw16, hs17, hw17, hs18, hw18, hs19, hw19, hs20, hw20, hs21, hw21, hs22, hw22, hs23, hw23, hs25, hw25, hs26, hw26, hs27, hw27, hs28, hw28, hs9b, hw9b, hs10b, hw10b, kd0, kd20, kd21, kd22, kd23, kd24, kd25, kd26, kd27, kd28, kd29, kd30, kd31, kd32, kd33, kd34, kd35, kd36, kd37, kd38, kd39, kd40, kd41, kd42, kd54, kd55, kd56, kd57, kd58, kd59, kd67, kd75, kd82, kd89, kd102, kd115, kd276, kd437, kd444, kd451, kd452, kd453, kd534, kd535, kd536, kd553, kd557, kd558, kd559, kd560, kd561, ↓xgI_u, ↓xpI_u, ↓xaI_u, ↓xsI_u, ↓xrk_u, ↓xrk0_u, ↓xob_v, ↓xmb_v, ↓xth_v, ↓xth_x, ↓jn_u, ↓xlen_u, ↓xaL_u, ↓xsL_u, ↓xbl_0, ↓xbl_1, eq_self, inb_n, inb_d, Sh_PI, Sh_PL, dk_PI, dk_PL, dr_PI, dr_PL, ↓reduceIte, Int32.reduceLE, Int32.reduceLT, Int32.reduceToNatClampNeg, Nat.reduceLT, Nat.reduceLeDiff, Nat.reduceEqDiff, Nat.reduceAdd, Nat.reduceMul, hs, di_PI, and_self, if_true, t_more, t_less]
    rfl
  · have hb := fun v => t_blw (k := fun (M11 : dwSt) => xgR M11 69 (b + 54) (fun v12 => xaI M11 v12 0 (fun v13 => xob (m_X10_more 0 v13) (fun v14 => xob (m_X10_less 40 v14) (fun v15 => some (v15, M11)))))) d cs _ (h4 (dwI M (b + 452))) (dwPI M (b + 451) 0 v) 0 0 (1000000 - cs.length) cs.length (show Sh b (dwPI M (b + 451) 0 v) from hs) (fun k _ => by rw [di_PI, if_neg (by omega)]) (h2' v) h1 (fun i x hx => by
      have hi : i < cs.length := (List.getElem?_eq_some_iff.mp hx).1
      rw [di_PI, if_neg (by omega), di_PI, if_neg (by omega), Nat.zero_add]; exact h3 i x hx) (by omega) (by omega)
    obtain ⟨M', f1, g1, k1, r1⟩ := hb (dwI M (b + 452) 0 - 2 * dwI M (b + 452) 1 - 3 * dwI M (b + 452) 2 - dwI M (b + 452) 5)
    have hs1 : Sh b M' := Sh.fr (M := dwPI M (b + 451) 0 _) hs f1 nz_p
    refine ⟨M', ?_, ((fr.refl (S := sSt b) (Z := nz) M).pI (a := b + 451) (k := 0) _ (Or.inl rfl)).t0 f1⟩
    simp -implicitDefEqProofs only [m_X10_byLaw, ↓gp0_2, ↓gp0_3, ↓gp0_4, ↓gp0_5, ↓gp0_6, ↓gp0_7, ↓gp0_8, ↓gp0_9, ↓gp0_10, ↓gp0_18, ↓gp0_19, ↓gp0_20, ↓gp0_22, ↓gp23_43, ↓gp23_32, ↓gp23_33, ↓gp23_34, ↓gp23_35, ↓gp23_36, ↓gp29_43, ↓gp29_32, ↓gp29_33, ↓gp29_34, ↓gp29_35, ↓gp29_36, ↓gp54_53, ↓gp54_54, ↓gp54_55, ↓gp54_56, ↓gp54_57, ↓gp54_58, ↓gp54_59, ↓gp54_60, ↓gp54_61, ↓gp54_62, ↓gp54_65, ↓gp54_66, ↓gp54_67, ↓gp54_68, ↓gp54_69, ↓gp54_70, ↓gp54_71, ↓gp54_73, ↓gp54_74, ↓gp54_75, ↓gp54_76, ↓gp54_84, ↓gp54_85, ↓gp54_87, ↓gp54_88, ↓xr59, kr59, ↓xr67, kr67, ↓xr75, kr75, ↓xr82, kr82, ↓xr89, kr89, ↓xr102, kr102, ↓xr115, kr115, ↓xr276, kr276, ↓xr437, kr437, ↓xr444, kr444, ↓xr453, kr453, ↓xr536, kr536, ↓xr553, kr553, hs0, hw0, hs1, hw1, hs2, hw2, hs3, hw3, hs4, hw4, hs5, hw5, hs6, hw6, hs7, hw7, hs8, hw8, hs9, hw9, hs10, hw10, hs11, hw11, hs12, hw12, hs13, hw13, hs14, hw14, hs15, hw15, hs16, hw16, hs17, hw17, hs18, hw18, hs19, hw19, hs20, hw20, hs21, hw21, hs22, hw22, hs23, hw23, hs25, hw25, hs26, hw26, hs27, hw27, hs28, hw28, hs9b, hw9b, hs10b, hw10b, kd0, kd20, kd21, kd22, kd23, kd24, kd25, kd26, kd27, kd28, kd29, kd30, kd31, kd32, kd33, kd34, kd35, kd36, kd37, kd38, kd39, kd40, kd41, kd42, kd54, kd55, kd56, kd57, kd58, kd59, kd67, kd75, kd82, kd89, kd102, kd115, kd276, kd437, kd444, kd451, kd452, kd453, kd534, kd535, kd536, kd553, kd557, kd558, kd559, kd560, kd561, ↓xgI_u, ↓xpI_u, ↓xaI_u, ↓xsI_u, ↓xrk_u, ↓xrk0_u, ↓xob_v, ↓xmb_v, ↓xth_v, ↓xth_x, ↓jn_u, ↓xlen_u, ↓xaL_u, ↓xsL_u, ↓xbl_0, ↓xbl_1, eq_self, inb_n, inb_d, Sh_PI, Sh_PL, dk_PI, dk_PL, dr_PI, dr_PL, ↓reduceIte, Int32.reduceLE, Int32.reduceLT, Int32.reduceToNatClampNeg, Nat.reduceLT, Nat.reduceLeDiff, Nat.reduceEqDiff, Nat.reduceAdd, Nat.reduceMul, hs]
    rw [show 1000000 - cs.length + cs.length = 1000000 by omega] at r1
    refine r1.trans ?_
    rw [show 1000000 - cs.length = (999999 - cs.length) + 1 by omega, L_X10_byLaw_41]
    have hN : dwI M' (b + 54) 63 = Int32.ofNat cs.length := (f1.i (by show b + 54 < dwN M; omega) (fun q => by unfold sSt at q; omega)).trans (h2' _)
    simp only [↓gp0_2, ↓gp0_3, ↓gp0_4, ↓gp0_5, ↓gp0_6, ↓gp0_7, ↓gp0_8, ↓gp0_9, ↓gp0_10, ↓gp0_18, ↓gp0_19, ↓gp0_20, ↓gp0_22, ↓gp23_43, ↓gp23_32, ↓gp23_33, ↓gp23_34, ↓gp23_35, ↓gp23_36, ↓gp29_43, ↓gp29_32, ↓gp29_33, ↓gp29_34, ↓gp29_35, ↓gp29_36, ↓gp54_53, ↓gp54_54, ↓gp54_55, ↓gp54_56, ↓gp54_57, ↓gp54_58, ↓gp54_59, ↓gp54_60, ↓gp54_61, ↓gp54_62, ↓gp54_65, ↓gp54_66, ↓gp54_67, ↓gp54_68, ↓gp54_69, ↓gp54_70, ↓gp54_71, ↓gp54_73, ↓gp54_74, ↓gp54_75, ↓gp54_76, ↓gp54_84, ↓gp54_85, ↓gp54_87, ↓gp54_88, ↓xr59, kr59, ↓xr67, kr67, ↓xr75, kr75, ↓xr82, kr82, ↓xr89, kr89, ↓xr102, kr102, ↓xr115, kr115, ↓xr276, kr276, ↓xr437, kr437, ↓xr444, kr444, ↓xr453, kr453, ↓xr536, kr536, ↓xr553, kr553, hs0, hw0, hs1, hw1, hs2, hw2, hs3, hw3, hs4, hw4, hs5, hw5, hs6, hw6, hs7, hw7, hs8, hw8, hs9, hw9, hs10, hw10, hs11, hw11, hs12, hw12, hs13, hw13, hs14, hw14, hs15, hw15, hs16, hw16, hs17, hw17, hs18, hw18, hs19, hw19, hs20, hw20, hs21, hw21, hs22, hw22, hs23, hw23, hs25, hw25, hs26, hw26, hs27, hw27, hs28, hw28, hs9b, hw9b, hs10b, hw10b, kd0, kd20, kd21, kd22, kd23, kd24, kd25, kd26, kd27, kd28, kd29, kd30, kd31, kd32, kd33, kd34, kd35, kd36, kd37, kd38, kd39, kd40, kd41, kd42, kd54, kd55, kd56, kd57, kd58, kd59, kd67, kd75, kd82, kd89, kd102, kd115, kd276, kd437, kd444, kd451, kd452, kd453, kd534, kd535, kd536, kd553, kd557, kd558, kd559, kd560, kd561, ↓xgI_u, ↓xpI_u, ↓xaI_u, ↓xsI_u, ↓xrk_u, ↓xrk0_u, ↓xob_v, ↓xmb_v, ↓xth_v, ↓xth_x, ↓jn_u, ↓xlen_u, ↓xaL_u, ↓xsL_u, ↓xbl_0, ↓xbl_1, eq_self, inb_n, inb_d, Sh_PI, Sh_PL, dk_PI, dk_PL, dr_PI, dr_PL, ↓reduceIte, Int32.reduceLE, Int32.reduceLT, Int32.reduceToNatClampNeg, Nat.reduceLT, Nat.reduceLeDiff, Nat.reduceEqDiff, Nat.reduceAdd, Nat.reduceMul, hs1, hN, Nat.zero_add, i_geT, if_true, g1, t_more, t_less]
    rfl
theorem t_laughBy (hs : Sh b M) (hL : tLaw b M lw) (v0 v1 v2 v3 v4 v5 v6 v7 v8 v9 : Int32) : ∃ M', m_X10_laughBy M (b + 54) v0 v1 v2 v3 v4 v5 v6 v7 v8 v9 = some (clampS (lw (facS v0 v1 v2 v3 v4 v5 v6 v7 v8 v9)), M') ∧ fr (sKn b) nz 0 0 M M' := by
  have f0 : fr (sKn b) nz 0 0 M (dwPI (dwPI (dwPI (dwPI (dwPI (dwPI (dwPI (dwPI (dwPI (dwPI M (b + 452) 0 v0) (b + 452) 1 v1) (b + 452) 2 v2) (b + 452) 3 v3) (b + 452) 4 v4) (b + 452) 5 v5) (b + 452) 6 v6) (b + 452) 7 v7) (b + 452) 8 v8) (b + 452) 9 v9) := by
    have q : ∀ k, sKn b (b + 452) k ∨ dwN M ≤ b + 452 := fun k => Or.inl (Or.inr rfl)
    exact ((((((((((fr.refl M).pI v0 (q 0)).pI v1 (q 1)).pI v2 (q 2)).pI v3 (q 3)).pI v4 (q 4)).pI v5 (q 5)).pI v6 (q 6)).pI v7 (q 7)).pI v8 (q 8)).pI v9 (q 9)
  obtain ⟨M', r1, f1⟩ := t_byLaw (M := (dwPI (dwPI (dwPI (dwPI (dwPI (dwPI (dwPI (dwPI (dwPI (dwPI M (b + 452) 0 v0) (b + 452) 1 v1) (b + 452) 2 v2) (b + 452) 3 v3) (b + 452) 4 v4) (b + 452) 5 v5) (b + 452) 6 v6) (b + 452) 7 v7) (b + 452) 8 v8) (b + 452) 9 v9)) (hs.fr f0 nz_p) (hL.fr hs f0 sKn_t)
  refine ⟨M', ?_, f0.t0 (f1.mono (fun a k h => Or.inl h) (fun _ _ h => h) (Nat.le_refl _) (Nat.le_refl _))⟩
  have he : lw (dwI (dwPI (dwPI (dwPI (dwPI (dwPI (dwPI (dwPI (dwPI (dwPI (dwPI M (b + 452) 0 v0) (b + 452) 1 v1) (b + 452) 2 v2) (b + 452) 3 v3) (b + 452) 4 v4) (b + 452) 5 v5) (b + 452) 6 v6) (b + 452) 7 v7) (b + 452) 8 v8) (b + 452) 9 v9) (b + 452)) = lw (facS v0 v1 v2 v3 v4 v5 v6 v7 v8 v9) := by
    refine hL.1 _ _ fun k hk => ?_
    rcases (by omega : k = 0 ∨ k = 1 ∨ k = 2 ∨ k = 3 ∨ k = 4 ∨ k = 5 ∨ k = 6 ∨ k = 7 ∨ k = 8 ∨ k = 9) with rfl | rfl | rfl | rfl | rfl | rfl | rfl | rfl | rfl | rfl <;> simp [di_PI, facS]
  rw [he] at r1
  simp -implicitDefEqProofs only [m_X10_laughBy, ↓gp0_2, ↓gp0_3, ↓gp0_4, ↓gp0_5, ↓gp0_6, ↓gp0_7, ↓gp0_8, ↓gp0_9, ↓gp0_10, ↓gp0_18, ↓gp0_19, ↓gp0_20, ↓gp0_22, ↓gp23_43, ↓gp23_32, ↓gp23_33, ↓gp23_34, ↓gp23_35, ↓gp23_36, ↓gp29_43, ↓gp29_32, ↓gp29_33, ↓gp29_34, ↓gp29_35, ↓gp29_36, ↓gp54_53, ↓gp54_54, ↓gp54_55, ↓gp54_56, ↓gp54_57, ↓gp54_58, ↓gp54_59, ↓gp54_60, ↓gp54_61, ↓gp54_62, ↓gp54_65, ↓gp54_66, ↓gp54_67, ↓gp54_68, ↓gp54_69, ↓gp54_70, ↓gp54_71, ↓gp54_73, ↓gp54_74, ↓gp54_75, ↓gp54_76, ↓gp54_84, ↓gp54_85, ↓gp54_87, ↓gp54_88, ↓xr59, kr59, ↓xr67, kr67, ↓xr75, kr75, ↓xr82, kr82, ↓xr89, kr89, ↓xr102, kr102, ↓xr115, kr115, ↓xr276, kr276, ↓xr437, kr437, ↓xr444, kr444, ↓xr453, kr453, ↓xr536, kr536, ↓xr553, kr553, hs0, hw0, hs1, hw1, hs2, hw2, hs3, hw3, hs4, hw4, hs5, hw5, hs6, hw6, hs7, hw7, hs8, hw8, hs9, hw9, hs10, hw10, hs11, hw11, hs12, hw12, hs13, hw13, hs14, hw14, hs15, hw15, hs16, hw16, hs17, hw17, hs18, hw18, hs19, hw19, hs20, hw20, hs21, hw21, hs22, hw22, hs23, hw23, hs25, hw25, hs26, hw26, hs27, hw27, hs28, hw28, hs9b, hw9b, hs10b, hw10b, kd0, kd20, kd21, kd22, kd23, kd24, kd25, kd26, kd27, kd28, kd29, kd30, kd31, kd32, kd33, kd34, kd35, kd36, kd37, kd38, kd39, kd40, kd41, kd42, kd54, kd55, kd56, kd57, kd58, kd59, kd67, kd75, kd82, kd89, kd102, kd115, kd276, kd437, kd444, kd451, kd452, kd453, kd534, kd535, kd536, kd553, kd557, kd558, kd559, kd560, kd561, ↓xgI_u, ↓xpI_u, ↓xaI_u, ↓xsI_u, ↓xrk_u, ↓xrk0_u, ↓xob_v, ↓xmb_v, ↓xth_v, ↓xth_x, ↓jn_u, ↓xlen_u, ↓xaL_u, ↓xsL_u, ↓xbl_0, ↓xbl_1, eq_self, inb_n, inb_d, Sh_PI, Sh_PL, dk_PI, dk_PL, dr_PI, dr_PL, ↓reduceIte, Int32.reduceLE, Int32.reduceLT, Int32.reduceToNatClampNeg, Nat.reduceLT, Nat.reduceLeDiff, Nat.reduceEqDiff, Nat.reduceAdd, Nat.reduceMul, hs, r1]
theorem t_laughWith {a j p : Nat} {t g m : Int32} (h : tEnv b M T lw) (ha : dwK M a = (1, 79)) (hj : j < tJ T) (hp : p < tP T) : ∃ M', m_X10_laughWith M (b + 54) a (Int32.ofNat j) (Int32.ofNat p) t g m = some (laughS T lw (dwI M a) j p t g m, M') ∧ fr (sKn b) nz 0 0 M M' := by
  obtain ⟨hs, hT, hL⟩ := h
  have o := hT.2.2.2.2.2.2.2.2
  have o1 := o.1
  have o2 := o.2.1
  have hj6 : j < 6 := by omega
  have hp7 : p < 7 := by omega
  have e1 := hT.2.2.2.2.2.2.1 j 0 hj (by omega)
  have e2 := hT.2.2.2.2.2.2.1 j 1 hj (by omega)
  have e3 := hT.2.2.2.2.2.1 p 0 hp (by omega)
  have hw : m_X10_whoHas M (b + 54) a 0 = some (whoS (tP T) (dwI M a) 0) := t_whoHas (o := 0) hs hT ha (by omega)
  have hx : 35 + 7 * j + p < 79 := by omega
  have hy : 7 + p < 79 := by omega
  obtain ⟨M', r1, f1⟩ := t_laughBy hs hL (tjo T j 1) (apartS T j t) (dwI M a (35 + 7 * j + p) + m) (sumS (tP T) (dwI M a) (35 + 7 * j) + m) (tpe T p 0) g (onesS (nearS T p &&& whoS (tP T) (dwI M a) 0)) (dwI M a (7 + p)) (dwI M a 78) (Int32.ofNat p)
  refine ⟨M', ?_, f1⟩
  unfold apartS at r1
  simp -implicitDefEqProofs only [m_X10_laughWith, ↓gp0_2, ↓gp0_3, ↓gp0_4, ↓gp0_5, ↓gp0_6, ↓gp0_7, ↓gp0_8, ↓gp0_9, ↓gp0_10, ↓gp0_18, ↓gp0_19, ↓gp0_20, ↓gp0_22, ↓gp23_43, ↓gp23_32, ↓gp23_33, ↓gp23_34, ↓gp23_35, ↓gp23_36, ↓gp29_43, ↓gp29_32, ↓gp29_33, ↓gp29_34, ↓gp29_35, ↓gp29_36, ↓gp54_53, ↓gp54_54, ↓gp54_55, ↓gp54_56, ↓gp54_57, ↓gp54_58, ↓gp54_59, ↓gp54_60, ↓gp54_61, ↓gp54_62, ↓gp54_65, ↓gp54_66, ↓gp54_67, ↓gp54_68, ↓gp54_69, ↓gp54_70, ↓gp54_71, ↓gp54_73, ↓gp54_74, ↓gp54_75, ↓gp54_76, ↓gp54_84, ↓gp54_85, ↓gp54_87, ↓gp54_88, ↓xr59, kr59, ↓xr67, kr67, ↓xr75, kr75, ↓xr82, kr82, ↓xr89, kr89, ↓xr102, kr102, ↓xr115, kr115, ↓xr276, kr276, ↓xr437, kr437, ↓xr444, kr444, ↓xr453, kr453, ↓xr536, kr536, ↓xr553, kr553, hs0, hw0, hs1, hw1, hs2, hw2, hs3, hw3, hs4, hw4, hs5, hw5, hs6, hw6, hs7, hw7, hs8, hw8, hs9, hw9, hs10, hw10, hs11, hw11, hs12, hw12, hs13, hw13, hs14, hw14, hs15, hw15, hs16, hw16, hs17, hw17, hs18, hw18, hs19, hw19, hs20, hw20, hs21, hw21, hs22, hw22, hs23, hw23, hs25, hw25, hs26, hw26, hs27, hw27, hs28, hw28, hs9b, hw9b, hs10b, hw10b, kd0, kd20, kd21, kd22, kd23, kd24, kd25, kd26, kd27, kd28, kd29, kd30, kd31, kd32, kd33, kd34, kd35, kd36, kd37, kd38, kd39, kd40, kd41, kd42, kd54, kd55, kd56, kd57, kd58, kd59, kd67, kd75, kd82, kd89, kd102, kd115, kd276, kd437, kd444, kd451, kd452, kd453, kd534, kd535, kd536, kd553, kd557, kd558, kd559, kd560, kd561, ↓xgI_u, ↓xpI_u, ↓xaI_u, ↓xsI_u, ↓xrk_u, ↓xrk0_u, ↓xob_v, ↓xmb_v, ↓xth_v, ↓xth_x, ↓jn_u, ↓xlen_u, ↓xaL_u, ↓xsL_u, ↓xbl_0, ↓xbl_1, eq_self, inb_n, inb_d, Sh_PI, Sh_PL, dk_PI, dk_PL, dr_PI, dr_PL, ↓reduceIte, Int32.reduceLE, Int32.reduceLT, Int32.reduceToNatClampNeg, Nat.reduceLT, Nat.reduceLeDiff, Nat.reduceEqDiff, Nat.reduceAdd, Nat.reduceMul, hs, ha, hj6, hp7, hx, hy, e1, e2, e3, t_more, x_worn, x_c7, i_nat (show 35 + 7 * j + p < 2147483648 by omega), i_nat (show 7 + p < 2147483648 by omega), t_toldIn hs hT ha hj6, t_nearTo hs hT, hw, t_ones, r1]
  rfl
theorem t_laughOf {a j p : Nat} (h : tEnv b M T lw) (ha : dwK M a = (1, 79)) (hj : j < tJ T) (hp : p < tP T) : ∃ M', m_X10_laughOf M (b + 54) a (Int32.ofNat j) (Int32.ofNat p) = some (lghS T lw (dwI M a) j p, M') ∧ fr (sKn b) nz 0 0 M M' := by
  have o1 := h.2.1.2.2.2.2.2.2.2.2.1
  have hp7 : p < 7 := by omega
  have hp79 : p < 79 := by omega
  have e3 := h.2.1.2.2.2.2.2.1 p 1 hp (by omega)
  obtain ⟨M', r1, f1⟩ := t_laughWith (t := tpe T p 1) (g := dwI M a p) (m := 0) h ha hj hp
  refine ⟨M', ?_, f1⟩
  simp -implicitDefEqProofs only [m_X10_laughOf, ↓gp0_2, ↓gp0_3, ↓gp0_4, ↓gp0_5, ↓gp0_6, ↓gp0_7, ↓gp0_8, ↓gp0_9, ↓gp0_10, ↓gp0_18, ↓gp0_19, ↓gp0_20, ↓gp0_22, ↓gp23_43, ↓gp23_32, ↓gp23_33, ↓gp23_34, ↓gp23_35, ↓gp23_36, ↓gp29_43, ↓gp29_32, ↓gp29_33, ↓gp29_34, ↓gp29_35, ↓gp29_36, ↓gp54_53, ↓gp54_54, ↓gp54_55, ↓gp54_56, ↓gp54_57, ↓gp54_58, ↓gp54_59, ↓gp54_60, ↓gp54_61, ↓gp54_62, ↓gp54_65, ↓gp54_66, ↓gp54_67, ↓gp54_68, ↓gp54_69, ↓gp54_70, ↓gp54_71, ↓gp54_73, ↓gp54_74, ↓gp54_75, ↓gp54_76, ↓gp54_84, ↓gp54_85, ↓gp54_87, ↓gp54_88, ↓xr59, kr59, ↓xr67, kr67, ↓xr75, kr75, ↓xr82, kr82, ↓xr89, kr89, ↓xr102, kr102, ↓xr115, kr115, ↓xr276, kr276, ↓xr437, kr437, ↓xr444, kr444, ↓xr453, kr453, ↓xr536, kr536, ↓xr553, kr553, hs0, hw0, hs1, hw1, hs2, hw2, hs3, hw3, hs4, hw4, hs5, hw5, hs6, hw6, hs7, hw7, hs8, hw8, hs9, hw9, hs10, hw10, hs11, hw11, hs12, hw12, hs13, hw13, hs14, hw14, hs15, hw15, hs16, hw16, hs17, hw17, hs18, hw18, hs19, hw19, hs20, hw20, hs21, hw21, hs22, hw22, hs23, hw23, hs25, hw25, hs26, hw26, hs27, hw27, hs28, hw28, hs9b, hw9b, hs10b, hw10b, kd0, kd20, kd21, kd22, kd23, kd24, kd25, kd26, kd27, kd28, kd29, kd30, kd31, kd32, kd33, kd34, kd35, kd36, kd37, kd38, kd39, kd40, kd41, kd42, kd54, kd55, kd56, kd57, kd58, kd59, kd67, kd75, kd82, kd89, kd102, kd115, kd276, kd437, kd444, kd451, kd452, kd453, kd534, kd535, kd536, kd553, kd557, kd558, kd559, kd560, kd561, ↓xgI_u, ↓xpI_u, ↓xaI_u, ↓xsI_u, ↓xrk_u, ↓xrk0_u, ↓xob_v, ↓xmb_v, ↓xth_v, ↓xth_x, ↓jn_u, ↓xlen_u, ↓xaL_u, ↓xsL_u, ↓xbl_0, ↓xbl_1, eq_self, inb_n, inb_d, Sh_PI, Sh_PL, dk_PI, dk_PL, dr_PI, dr_PL, ↓reduceIte, Int32.reduceLE, Int32.reduceLT, Int32.reduceToNatClampNeg, Nat.reduceLT, Nat.reduceLeDiff, Nat.reduceEqDiff, Nat.reduceAdd, Nat.reduceMul, h.1, ha, hp7, e3, x_o0, hp79, i_nat (show p < 2147483648 by omega), r1]
  rfl
theorem t_waterOf {a j p : Nat} (h : tEnv b M T lw) (ha : dwK M a = (1, 79)) (hj : j < tJ T) (hp : p < tP T) : ∃ M', m_X10_waterOf M (b + 54) a (Int32.ofNat j) (Int32.ofNat p) = some (watS T lw (dwI M a) j p, M') ∧ fr (sKn b) nz 0 0 M M' := by
  have o1 := h.2.1.2.2.2.2.2.2.2.2.1
  have hp7 : p < 7 := by omega
  obtain ⟨M', r1, f1⟩ := t_laughOf h ha hj hp
  have h' := h.fr f1 sKn_t nz_p
  have e3 := h'.2.1.2.2.2.2.2.1 p 0 hp (by omega)
  refine ⟨M', ?_, f1⟩
  simp -implicitDefEqProofs only [m_X10_waterOf, ↓gp0_2, ↓gp0_3, ↓gp0_4, ↓gp0_5, ↓gp0_6, ↓gp0_7, ↓gp0_8, ↓gp0_9, ↓gp0_10, ↓gp0_18, ↓gp0_19, ↓gp0_20, ↓gp0_22, ↓gp23_43, ↓gp23_32, ↓gp23_33, ↓gp23_34, ↓gp23_35, ↓gp23_36, ↓gp29_43, ↓gp29_32, ↓gp29_33, ↓gp29_34, ↓gp29_35, ↓gp29_36, ↓gp54_53, ↓gp54_54, ↓gp54_55, ↓gp54_56, ↓gp54_57, ↓gp54_58, ↓gp54_59, ↓gp54_60, ↓gp54_61, ↓gp54_62, ↓gp54_65, ↓gp54_66, ↓gp54_67, ↓gp54_68, ↓gp54_69, ↓gp54_70, ↓gp54_71, ↓gp54_73, ↓gp54_74, ↓gp54_75, ↓gp54_76, ↓gp54_84, ↓gp54_85, ↓gp54_87, ↓gp54_88, ↓xr59, kr59, ↓xr67, kr67, ↓xr75, kr75, ↓xr82, kr82, ↓xr89, kr89, ↓xr102, kr102, ↓xr115, kr115, ↓xr276, kr276, ↓xr437, kr437, ↓xr444, kr444, ↓xr453, kr453, ↓xr536, kr536, ↓xr553, kr553, hs0, hw0, hs1, hw1, hs2, hw2, hs3, hw3, hs4, hw4, hs5, hw5, hs6, hw6, hs7, hw7, hs8, hw8, hs9, hw9, hs10, hw10, hs11, hw11, hs12, hw12, hs13, hw13, hs14, hw14, hs15, hw15, hs16, hw16, hs17, hw17, hs18, hw18, hs19, hw19, hs20, hw20, hs21, hw21, hs22, hw22, hs23, hw23, hs25, hw25, hs26, hw26, hs27, hw27, hs28, hw28, hs9b, hw9b, hs10b, hw10b, kd0, kd20, kd21, kd22, kd23, kd24, kd25, kd26, kd27, kd28, kd29, kd30, kd31, kd32, kd33, kd34, kd35, kd36, kd37, kd38, kd39, kd40, kd41, kd42, kd54, kd55, kd56, kd57, kd58, kd59, kd67, kd75, kd82, kd89, kd102, kd115, kd276, kd437, kd444, kd451, kd452, kd453, kd534, kd535, kd536, kd553, kd557, kd558, kd559, kd560, kd561, ↓xgI_u, ↓xpI_u, ↓xaI_u, ↓xsI_u, ↓xrk_u, ↓xrk0_u, ↓xob_v, ↓xmb_v, ↓xth_v, ↓xth_x, ↓jn_u, ↓xlen_u, ↓xaL_u, ↓xsL_u, ↓xbl_0, ↓xbl_1, eq_self, inb_n, inb_d, Sh_PI, Sh_PL, dk_PI, dk_PL, dr_PI, dr_PL, ↓reduceIte, Int32.reduceLE, Int32.reduceLT, Int32.reduceToNatClampNeg, Nat.reduceLT, Nat.reduceLeDiff, Nat.reduceEqDiff, Nat.reduceAdd, Nat.reduceMul, h.1, h'.1, hp7, e3, r1]
  rfl
end TWIN
