abbrev gvT : Type := (Nat → Int32) × (Nat → Int32) × Int32
def gvS (A : dvA) : Nat → Nat → Nat → Int32 → gvT → gvT
  | 0, _, _, _, s => s
  | d + 1, j, t, wt, s => if j = tJ (aT A) then (if s.2.2 < wt then (s.1, s.1, wt) else s) else
      (fun s1 : gvT => gvS A d (j + 1) t wt (rset s1.1 j (-1), s1.2.1, s1.2.2)) (itr (fun p s => if t.testBit p = true then s else gvS A d (j + 1) (t ||| 2 ^ p) (wt + watS (aT A) (aLw A) (aNow A) j p) (rset s.1 j (Int32.ofNat p), s.2.1, s.2.2)) s (tP (aT A)))
def gvI (A : dvA) (d j t : Nat) (wt : Int32) (s : gvT) (n : Nat) : gvT := itr (fun p s => if t.testBit p = true then s else gvS A d (j + 1) (t ||| 2 ^ p) (wt + watS (aT A) (aLw A) (aNow A) j p) (rset s.1 j (Int32.ofNat p), s.2.1, s.2.2)) s n
theorem gvI_e (A : dvA) (d j t : Nat) (wt : Int32) (s : gvT) (n : Nat) : gvI A d j t wt s (n + 1) = if t.testBit n = true then gvI A d j t wt s n else gvS A d (j + 1) (t ||| 2 ^ n) (wt + watS (aT A) (aLw A) (aNow A) j n) (rset (gvI A d j t wt s n).1 j (Int32.ofNat n), (gvI A d j t wt s n).2.1, (gvI A d j t wt s n).2.2) := rfl
theorem gvS_e (A : dvA) (d j t : Nat) (wt : Int32) (s : gvT) : gvS A (d + 1) j t wt s = if j = tJ (aT A) then (if s.2.2 < wt then (s.1, s.1, wt) else s) else gvS A d (j + 1) t wt (rset (gvI A d j t wt s (tP (aT A))).1 j (-1), (gvI A d j t wt s (tP (aT A))).2.1, (gvI A d j t wt s (tP (aT A))).2.2) := rfl
/-- two states that differ in what was left from before alone -/
def gvE (A : dvA) (j : Nat) (s s' : gvT) : Prop := s.2.2 = s'.2.2 ∧ (∀ k, k < j → s.1 k = s'.1 k) ∧ (s.2.2 = -1 ∨ ∀ k, k < tJ (aT A) → s.2.1 k = s'.2.1 k)
theorem gv_eq (A : dvA) : ∀ d j t wt s s', j + d = tJ (aT A) + 1 → gvE A j s s' → gvE A j (gvS A d j t wt s) (gvS A d j t wt s') := by
  intro d
  induction d with
  | zero => intro j t wt s s' _ h; exact h
  | succ d ih =>
    intro j t wt s s' hj h
    rw [gvS_e, gvS_e]
    by_cases e : j = tJ (aT A)
    · rw [if_pos e, if_pos e, ← h.1]
      by_cases hc : s.2.2 < wt
      · rw [if_pos hc, if_pos hc]
        exact ⟨rfl, h.2.1, Or.inr fun k hk => h.2.1 k (by omega)⟩
      · rw [if_neg hc, if_neg hc]; exact h
    · rw [if_neg e, if_neg e]
      have hset : ∀ (x y : gvT) v, gvE A j x y → gvE A (j + 1) (rset x.1 j v, x.2.1, x.2.2) (rset y.1 j v, y.2.1, y.2.2) := fun x y v hxy => ⟨hxy.1, fun k hk => by
        show rset x.1 j v k = rset y.1 j v k
        unfold rset
        by_cases q : k = j
        · rw [if_pos q, if_pos q]
        · rw [if_neg q, if_neg q]; exact hxy.2.1 k (by omega), hxy.2.2⟩
      have hdn : ∀ x y : gvT, gvE A (j + 1) x y → gvE A j x y := fun x y hxy => ⟨hxy.1, fun k hk => hxy.2.1 k (by omega), hxy.2.2⟩
      have hI : ∀ n, gvE A j (gvI A d j t wt s n) (gvI A d j t wt s' n) := by
        intro n
        induction n with
        | zero => exact h
        | succ n ihn =>
          rw [gvI_e, gvI_e]
          by_cases q : t.testBit n = true
          · rw [if_pos q, if_pos q]; exact ihn
          · rw [if_neg q, if_neg q]
            exact hdn _ _ (ih _ _ _ _ _ (by omega) (hset _ _ _ ihn))
      exact hdn _ _ (ih _ _ _ _ _ (by omega) (hset _ _ _ (hI _)))
theorem gv_ge (A : dvA) : ∀ d j t wt s, j + d = tJ (aT A) + 1 → j ≤ tJ (aT A) → ¬ (gvS A d j t wt s).2.2 < wt := by
  intro d
  induction d with
  | zero => intro j t wt s h1 h2; omega
  | succ d ih =>
    intro j t wt s h1 h2
    rw [gvS_e]
    by_cases e : j = tJ (aT A)
    · rw [if_pos e]
      by_cases hc : s.2.2 < wt
      · rw [if_pos hc]; exact Int32.lt_irrefl
      · rw [if_neg hc]; exact hc
    · rw [if_neg e]; exact ih _ _ _ _ (by omega) (by omega)
theorem gv_same {A : dvA} {t : Nat} {W B W' B' : Nat → Int32} : (gvS A (tJ (aT A) + 1) 0 t 0 (W, B, -1)).2.2 = (gvS A (tJ (aT A) + 1) 0 t 0 (W', B', -1)).2.2 ∧ ∀ k, k < tJ (aT A) → (gvS A (tJ (aT A) + 1) 0 t 0 (W, B, -1)).2.1 k = (gvS A (tJ (aT A) + 1) 0 t 0 (W', B', -1)).2.1 k := by
  obtain ⟨h1, h2, h3⟩ := gv_eq A (tJ (aT A) + 1) 0 t 0 (W, B, -1) (W', B', -1) (by omega) ⟨rfl, fun k hk => by omega, Or.inl rfl⟩
  refine ⟨h1, h3.resolve_left fun q => ?_⟩
  have := gv_ge A (tJ (aT A) + 1) 0 t 0 (W, B, -1) (by omega) (by omega)
  rw [q] at this
  exact this (by decide)
theorem i_eqF {a c : Nat} (h : a ≠ c) (ha : a < 2147483648) (hc : c < 2147483648) : (Int32.ofNat a = Int32.ofNat c) = False := by
  rw [i_inj ha hc]; exact eq_false h
theorem m_has1 {a p : Nat} (ha : a < 128) (hp : p < 7) : m_X1_has (Int32.ofNat a) (Int32.ofNat p) = some (if a.testBit p = true then 1 else 0) := by
  unfold m_X1_has
  by_cases h : a.testBit p = true
  · rw [if_pos ((has_ofN ha hp).mpr h), if_pos h]
  · rw [if_neg (fun z => h ((has_ofN ha hp).mp z)), if_neg h]
theorem m_has10 {a p : Nat} (ha : a < 128) (hp : p < 7) : m_X10_has (Int32.ofNat a) (Int32.ofNat p) = some (if a.testBit p = true then 1 else 0) := by
  unfold m_X10_has
  by_cases h : a.testBit p = true
  · rw [if_pos ((has_ofN ha hp).mpr h), if_pos h]
  · rw [if_neg (fun z => h ((has_ofN ha hp).mp z)), if_neg h]
theorem drop_n {a c : Nat} (ha : a < 128) : Int32.ofNat a &&& (Int32.ofNat c ^^^ (-1)) = Int32.ofNat (a &&& (c ^^^ 4294967295)) ∧ a &&& (c ^^^ 4294967295) < 128 ∧ ∀ q, (a &&& (c ^^^ 4294967295)).testBit q = (a.testBit q && !c.testBit q) := by
  refine ⟨?_, Nat.lt_of_le_of_lt Nat.and_le_left ha, fun q => ?_⟩
  · rw [show (-1 : Int32) = Int32.ofNat 4294967295 from rfl, i_xor, i_and]
  · rw [Nat.testBit_and, Nat.testBit_xor, show (4294967295 : Nat) = 2 ^ 32 - 1 from rfl, Nat.testBit_two_pow_sub_one]
    by_cases h : q < 32
    · simp [h]
    · have : a.testBit q = false := Nat.testBit_lt_two_pow (Nat.lt_of_lt_of_le ha (Nat.pow_le_pow_right (n := 2) (by omega) (show 7 ≤ q by omega)))
      rw [this]; rfl
section CALL
variable {b : Nat} {w : Nat → Nat} {A : dvA}
def gC (b : Nat) (M : dwSt) (s : gvT) : Prop := (∀ k, k < 6 → dwI M (b + 40) k = s.1 k) ∧ (∀ k, k < 6 → dwI M (b + 41) k = s.2.1 k) ∧ dwI M b 21 = s.2.2
theorem c_gives : ∀ d j t f wt (M : dwSt) s x, j + d = tJ (aT A) + 1 → j ≤ tJ (aT A) → f < 128 → (∀ p, p < tP (aT A) → f.testBit p = !t.testBit p) → CInv b w M A → gC b M s → ∃ M', m_X1_givesOn (d + x) M b (Int32.ofNat j) (Int32.ofNat f) wt = some ((), M') ∧ fr (cSc b) nz 0 0 M M' ∧ gC b M' (gvS A d j t wt s) := by
  intro d
  induction d with
  | zero => intro j t f wt M s x h1 h2; omega
  | succ d ih =>
    intro j t f wt M s x h1 h2 hf hft hC hg
    have o1 := hC.1.ok.1.1
    have o2 := hC.1.ok.1.2.1
    have hs := hC.1.1
    have hn := shN hs
    rw [show d + 1 + x = (d + x) + 1 by omega]
    show ∃ M', F_X1_givesOn (m_X1_givesOn (d + x)) M b (Int32.ofNat j) (Int32.ofNat f) wt = _ ∧ _
    rw [gvS_e]
    by_cases e : j = tJ (aT A)
    · rw [if_pos e]
      have ej : (Int32.ofNat j = Int32.ofNat (tJ (aT A))) = True := eq_true (by rw [e])
      by_cases hc : s.2.2 < wt
      · rw [if_pos hc]
        have f1 := ((fr.refl (S := cSc b) (Z := nz) M).pI (a := b) (k := 21) wt (Or.inl (Or.inl ⟨rfl, Or.inr rfl⟩))).cp (a := b + 40) (c := b + 41) (n := 6) (Or.inl fun k => by unfold cSc; omega)
        refine ⟨_, ?_, f1, ?_⟩
        · simp -implicitDefEqProofs only [F_X1_givesOn, ↓gp0_2, ↓gp0_3, ↓gp0_4, ↓gp0_5, ↓gp0_6, ↓gp0_7, ↓gp0_8, ↓gp0_9, ↓gp0_10, ↓gp0_18, ↓gp0_19, ↓gp0_20, ↓gp0_22, ↓gp23_43, ↓gp23_32, ↓gp23_33, ↓gp23_34, ↓gp23_35, ↓gp23_36, ↓gp29_43, ↓gp29_32, ↓gp29_33, ↓gp29_34, ↓gp29_35, ↓gp29_36, ↓gp54_53, ↓gp54_54, ↓gp54_55, ↓gp54_56, ↓gp54_57, ↓gp54_58, ↓gp54_59, ↓gp54_60, ↓gp54_61, ↓gp54_62, ↓gp54_65, ↓gp54_66, ↓gp54_67, ↓gp54_68, ↓gp54_69, ↓gp54_70, ↓gp54_71, ↓gp54_73, ↓gp54_74, ↓gp54_75, ↓gp54_76, ↓gp54_84, ↓gp54_85, ↓gp54_87, ↓gp54_88, ↓xr59, kr59, ↓xr67, kr67, ↓xr75, kr75, ↓xr82, kr82, ↓xr89, kr89, ↓xr102, kr102, ↓xr115, kr115, ↓xr276, kr276, ↓xr437, kr437, ↓xr444, kr444, ↓xr453, kr453, ↓xr536, kr536, ↓xr553, kr553, hs0, hw0, hs1, hw1, hs2, hw2, hs3, hw3, hs4, hw4, hs5, hw5, hs6, hw6, hs7, hw7, hs8, hw8, hs9, hw9, hs10, hw10, hs11, hw11, hs12, hw12, hs13, hw13, hs14, hw14, hs15, hw15, hs16, hw16, hs17, hw17, hs18, hw18, hs19, hw19, hs20, hw20, hs21, hw21, hs22, hw22, hs23, hw23, hs25, hw25, hs26, hw26, hs27, hw27, hs28, hw28, hs9b, hw9b, hs10b, hw10b, kd0, kd20, kd21, kd22, kd23, kd24, kd25, kd26, kd27, kd28, kd29, kd30, kd31, kd32, kd33, kd34, kd35, kd36, kd37, kd38, kd39, kd40, kd41, kd42, kd54, kd55, kd56, kd57, kd58, kd59, kd67, kd75, kd82, kd89, kd102, kd115, kd276, kd437, kd444, kd451, kd452, kd453, kd534, kd535, kd536, kd553, kd557, kd558, kd559, kd560, kd561, ↓xgI_u, ↓xpI_u, ↓xaI_u, ↓xsI_u, ↓xrk_u, ↓xrk0_u, ↓xob_v, ↓xmb_v, ↓xth_v, ↓xth_x, ↓jn_u, ↓xlen_u, ↓xaL_u, ↓xsL_u, ↓xbl_0, ↓xbl_1, eq_self, inb_n, inb_d, Sh_PI, Sh_PL, dk_PI, dk_PL, dr_PI, dr_PL, ↓reduceIte, Int32.reduceLE, Int32.reduceLT, Int32.reduceToNatClampNeg, Nat.reduceLT, Nat.reduceLeDiff, Nat.reduceEqDiff, Nat.reduceAdd, Nat.reduceMul, hs, c_jokes hs hC.1.2.1, ej, if_true, hg.2.2, hc, xcpy6]
        · refine ⟨fun k hk => ?_, fun k hk => ?_, ?_⟩
          · simp (disch := omega) only [di_Cpn, di_ne]; exact hg.1 k hk
          · simp (disch := omega) only [di_Cpe, di_ne]; exact hg.1 k hk
          · simp (disch := omega) only [di_Cpn, di_eq]
      · rw [if_neg hc]
        refine ⟨M, ?_, fr.refl M, hg⟩
        simp -implicitDefEqProofs only [F_X1_givesOn, ↓gp0_2, ↓gp0_3, ↓gp0_4, ↓gp0_5, ↓gp0_6, ↓gp0_7, ↓gp0_8, ↓gp0_9, ↓gp0_10, ↓gp0_18, ↓gp0_19, ↓gp0_20, ↓gp0_22, ↓gp23_43, ↓gp23_32, ↓gp23_33, ↓gp23_34, ↓gp23_35, ↓gp23_36, ↓gp29_43, ↓gp29_32, ↓gp29_33, ↓gp29_34, ↓gp29_35, ↓gp29_36, ↓gp54_53, ↓gp54_54, ↓gp54_55, ↓gp54_56, ↓gp54_57, ↓gp54_58, ↓gp54_59, ↓gp54_60, ↓gp54_61, ↓gp54_62, ↓gp54_65, ↓gp54_66, ↓gp54_67, ↓gp54_68, ↓gp54_69, ↓gp54_70, ↓gp54_71, ↓gp54_73, ↓gp54_74, ↓gp54_75, ↓gp54_76, ↓gp54_84, ↓gp54_85, ↓gp54_87, ↓gp54_88, ↓xr59, kr59, ↓xr67, kr67, ↓xr75, kr75, ↓xr82, kr82, ↓xr89, kr89, ↓xr102, kr102, ↓xr115, kr115, ↓xr276, kr276, ↓xr437, kr437, ↓xr444, kr444, ↓xr453, kr453, ↓xr536, kr536, ↓xr553, kr553, hs0, hw0, hs1, hw1, hs2, hw2, hs3, hw3, hs4, hw4, hs5, hw5, hs6, hw6, hs7, hw7, hs8, hw8, hs9, hw9, hs10, hw10, hs11, hw11, hs12, hw12, hs13, hw13, hs14, hw14, hs15, hw15, hs16, hw16, hs17, hw17, hs18, hw18, hs19, hw19, hs20, hw20, hs21, hw21, hs22, hw22, hs23, hw23, hs25, hw25, hs26, hw26, hs27, hw27, hs28, hw28, hs9b, hw9b, hs10b, hw10b, kd0, kd20, kd21, kd22, kd23, kd24, kd25, kd26, kd27, kd28, kd29, kd30, kd31, kd32, kd33, kd34, kd35, kd36, kd37, kd38, kd39, kd40, kd41, kd42, kd54, kd55, kd56, kd57, kd58, kd59, kd67, kd75, kd82, kd89, kd102, kd115, kd276, kd437, kd444, kd451, kd452, kd453, kd534, kd535, kd536, kd553, kd557, kd558, kd559, kd560, kd561, ↓xgI_u, ↓xpI_u, ↓xaI_u, ↓xsI_u, ↓xrk_u, ↓xrk0_u, ↓xob_v, ↓xmb_v, ↓xth_v, ↓xth_x, ↓jn_u, ↓xlen_u, ↓xaL_u, ↓xsL_u, ↓xbl_0, ↓xbl_1, eq_self, inb_n, inb_d, Sh_PI, Sh_PL, dk_PI, dk_PL, dr_PI, dr_PL, ↓reduceIte, Int32.reduceLE, Int32.reduceLT, Int32.reduceToNatClampNeg, Nat.reduceLT, Nat.reduceLeDiff, Nat.reduceEqDiff, Nat.reduceAdd, Nat.reduceMul, hs, c_jokes hs hC.1.2.1, ej, if_true, hg.2.2, hc, if_false]
    · rw [if_neg e]
      have hj6 : j < 6 := by omega
      simp -implicitDefEqProofs only [F_X1_givesOn, ↓xgI_u, ↓xpI_u, ↓xaI_u, ↓xsI_u, ↓xrk_u, ↓xrk0_u, ↓xob_v, ↓xmb_v, ↓xth_v, ↓xth_x, ↓jn_u, ↓xlen_u, ↓xaL_u, ↓xsL_u, ↓xbl_0, ↓xbl_1, eq_self, inb_n, inb_d, Sh_PI, Sh_PL, dk_PI, dk_PL, dr_PI, dr_PL, ↓reduceIte, Int32.reduceLE, Int32.reduceLT, Int32.reduceToNatClampNeg, Nat.reduceLT, Nat.reduceLeDiff, Nat.reduceEqDiff, Nat.reduceAdd, Nat.reduceMul, kd0 hs, c_jokes hs hC.1.2.1, i_eqF e (by omega) (by omega), if_false]
      refine lpx (E := fun y => ∃ M', y = some ((), M') ∧ fr (cSc b) nz 0 0 M M' ∧ gC b M' (gvS A d (j + 1) t wt (rset (gvI A d j t wt s (tP (aT A))).1 j (-1), (gvI A d j t wt s (tP (aT A))).2.1, (gvI A d j t wt s (tP (aT A))).2.2))) (fun f' i (M1 : dwSt) => L_X1_givesOn_41 (m_X1_givesOn (d + x)) b (Int32.ofNat j) (Int32.ofNat f) wt (fun (M2 : dwSt) => xgR M2 19 b (fun v3 => xsI M2 v3 (Int32.ofNat j) (-1) (fun M4 => xrk M4 b 0 (xmb (m_X1_givesOn (d + x) M4 b (Int32.ofNat j + 1) (Int32.ofNat f) wt) (fun _ M6 => some ((), M6)))))) f' (Int32.ofNat i) M1) (tP (aT A)) (fun i M1 => fr (cSc b) nz 0 0 M M1 ∧ gC b M1 (gvI A d j t wt s i)) ?_ ?_ 1000000 0 M (by omega) (by omega) ⟨fr.refl M, hg⟩
      · intro f' M1 ⟨f1, g1⟩
        have c1 := cinv_s hC f1
        have f2 := f1.pI (a := b + 40) (k := j) (-1) (Or.inl (by unfold cSc; omega))
        have g2 : gC b (dwPI M1 (b + 40) j (-1)) (rset (gvI A d j t wt s (tP (aT A))).1 j (-1), (gvI A d j t wt s (tP (aT A))).2.1, (gvI A d j t wt s (tP (aT A))).2.2) := ⟨fun k hk => by
          show _ = rset _ j (-1) k
          by_cases q : k = j
          · subst q; rw [di_eq, rset_eq]
          · rw [di_ne (by omega), rset_ne q]; exact g1.1 k hk, fun k hk => by rw [di_ne (by omega)]; exact g1.2.1 k hk, by rw [di_ne (by omega)]; exact g1.2.2⟩
        obtain ⟨M3, e3, f3, g3⟩ := ih (j + 1) t f wt _ _ x (by omega) (by omega) hf hft (cinv_s hC f2) g2
        refine ⟨M3, ?_, f2.t0 f3, g3⟩
        simp -implicitDefEqProofs only [L_X1_givesOn_41, ↓gp0_2, ↓gp0_3, ↓gp0_4, ↓gp0_5, ↓gp0_6, ↓gp0_7, ↓gp0_8, ↓gp0_9, ↓gp0_10, ↓gp0_18, ↓gp0_19, ↓gp0_20, ↓gp0_22, ↓gp23_43, ↓gp23_32, ↓gp23_33, ↓gp23_34, ↓gp23_35, ↓gp23_36, ↓gp29_43, ↓gp29_32, ↓gp29_33, ↓gp29_34, ↓gp29_35, ↓gp29_36, ↓gp54_53, ↓gp54_54, ↓gp54_55, ↓gp54_56, ↓gp54_57, ↓gp54_58, ↓gp54_59, ↓gp54_60, ↓gp54_61, ↓gp54_62, ↓gp54_65, ↓gp54_66, ↓gp54_67, ↓gp54_68, ↓gp54_69, ↓gp54_70, ↓gp54_71, ↓gp54_73, ↓gp54_74, ↓gp54_75, ↓gp54_76, ↓gp54_84, ↓gp54_85, ↓gp54_87, ↓gp54_88, ↓xr59, kr59, ↓xr67, kr67, ↓xr75, kr75, ↓xr82, kr82, ↓xr89, kr89, ↓xr102, kr102, ↓xr115, kr115, ↓xr276, kr276, ↓xr437, kr437, ↓xr444, kr444, ↓xr453, kr453, ↓xr536, kr536, ↓xr553, kr553, hs0, hw0, hs1, hw1, hs2, hw2, hs3, hw3, hs4, hw4, hs5, hw5, hs6, hw6, hs7, hw7, hs8, hw8, hs9, hw9, hs10, hw10, hs11, hw11, hs12, hw12, hs13, hw13, hs14, hw14, hs15, hw15, hs16, hw16, hs17, hw17, hs18, hw18, hs19, hw19, hs20, hw20, hs21, hw21, hs22, hw22, hs23, hw23, hs25, hw25, hs26, hw26, hs27, hw27, hs28, hw28, hs9b, hw9b, hs10b, hw10b, kd0, kd20, kd21, kd22, kd23, kd24, kd25, kd26, kd27, kd28, kd29, kd30, kd31, kd32, kd33, kd34, kd35, kd36, kd37, kd38, kd39, kd40, kd41, kd42, kd54, kd55, kd56, kd57, kd58, kd59, kd67, kd75, kd82, kd89, kd102, kd115, kd276, kd437, kd444, kd451, kd452, kd453, kd534, kd535, kd536, kd553, kd557, kd558, kd559, kd560, kd561, ↓xgI_u, ↓xpI_u, ↓xaI_u, ↓xsI_u, ↓xrk_u, ↓xrk0_u, ↓xob_v, ↓xmb_v, ↓xth_v, ↓xth_x, ↓jn_u, ↓xlen_u, ↓xaL_u, ↓xsL_u, ↓xbl_0, ↓xbl_1, eq_self, inb_n, inb_d, Sh_PI, Sh_PL, dk_PI, dk_PL, dr_PI, dr_PL, ↓reduceIte, Int32.reduceLE, Int32.reduceLT, Int32.reduceToNatClampNeg, Nat.reduceLT, Nat.reduceLeDiff, Nat.reduceEqDiff, Nat.reduceAdd, Nat.reduceMul, c1.1.1, c_persons c1.1.1 c1.1.2.1, i_geT, if_true, hj6, i_nat (show j < 2147483648 by omega), i_succ, e3]
      · intro f' i M1 hi ⟨f1, g1⟩ hnx
        have c1 := cinv_s hC f1
        have hi7 : i < 7 := by omega
        have es := gvI_e A d j t wt s i
        have hfi := hft i hi
        show ∃ M3, L_X1_givesOn_41 (m_X1_givesOn (d + x)) b (Int32.ofNat j) (Int32.ofNat f) wt _ (f' + 1) (Int32.ofNat i) M1 = _ ∧ _
        by_cases ht : t.testBit i = true
        · rw [if_pos ht] at es
          have hff : (f.testBit i = true) = False := eq_false (by rw [hfi, ht]; decide)
          simp -implicitDefEqProofs only [L_X1_givesOn_41, ↓xgI_u, ↓xpI_u, ↓xaI_u, ↓xsI_u, ↓xrk_u, ↓xrk0_u, ↓xob_v, ↓xmb_v, ↓xth_v, ↓xth_x, ↓jn_u, ↓xlen_u, ↓xaL_u, ↓xsL_u, ↓xbl_0, ↓xbl_1, eq_self, inb_n, inb_d, Sh_PI, Sh_PL, dk_PI, dk_PL, dr_PI, dr_PL, ↓reduceIte, Int32.reduceLE, Int32.reduceLT, Int32.reduceToNatClampNeg, Nat.reduceLT, Nat.reduceLeDiff, Nat.reduceEqDiff, Nat.reduceAdd, Nat.reduceMul, kd0 c1.1.1, c_persons c1.1.1 c1.1.2.1, i_geF hi (by omega), if_false, m_has1 hf hi7, hff, if_true, i_succ]
          have q := hnx M1 ⟨f1, by rw [es]; exact g1⟩
          simp only [i_succ] at q
          exact q
        · rw [if_neg ht] at es
          have hff : (f.testBit i = true) = True := eq_true (by
            have ht2 := ht
            rw [Bool.not_eq_true] at ht2
            rw [hfi, ht2]; rfl)
          have f2 := f1.pI (a := b + 40) (k := j) (Int32.ofNat i) (Or.inl (by unfold cSc; omega))
          have c2 := cinv_s hC f2
          obtain ⟨M3, u, f3⟩ := c_water c2.e c2.1.2.2.2.2.1 (show j < tJ (aT A) by omega) hi
          have f3' := f2.t0 (sFa_c f3)
          have c3 := cinv_s hC f3'
          have hn1 := shN c2.1.1
          have g3 : gC b M3 (rset (gvI A d j t wt s i).1 j (Int32.ofNat i), (gvI A d j t wt s i).2.1, (gvI A d j t wt s i).2.2) := ⟨fun k hk => by
            show _ = rset _ j _ k
            rw [f3.i (by omega) (fun q => by unfold sFa at q; omega)]
            by_cases q : k = j
            · subst q; rw [di_eq, rset_eq]
            · rw [di_ne (by omega), rset_ne q]; exact g1.1 k hk, fun k hk => by rw [f3.i (by omega) (fun q => by unfold sFa at q; omega), di_ne (by omega)]; exact g1.2.1 k hk, by rw [f3.i (by omega) (fun q => by unfold sFa at q; omega), di_ne (by omega)]; exact g1.2.2⟩
          obtain ⟨d1, d2, d3⟩ := drop_n (a := f) (c := 2 ^ i) hf
          obtain ⟨M4, e4, f4, g4⟩ := ih (j + 1) (t ||| 2 ^ i) (f &&& (2 ^ i ^^^ 4294967295)) (wt + watS (aT A) (aLw A) (aNow A) j i) M3 _ x (by omega) (by omega) d2 (fun p hp => by
            rw [d3, hft p hp, Nat.testBit_or, Bool.not_or]) c3 g3
          simp -implicitDefEqProofs only [L_X1_givesOn_41, ↓gp0_2, ↓gp0_3, ↓gp0_4, ↓gp0_5, ↓gp0_6, ↓gp0_7, ↓gp0_8, ↓gp0_9, ↓gp0_10, ↓gp0_18, ↓gp0_19, ↓gp0_20, ↓gp0_22, ↓gp23_43, ↓gp23_32, ↓gp23_33, ↓gp23_34, ↓gp23_35, ↓gp23_36, ↓gp29_43, ↓gp29_32, ↓gp29_33, ↓gp29_34, ↓gp29_35, ↓gp29_36, ↓gp54_53, ↓gp54_54, ↓gp54_55, ↓gp54_56, ↓gp54_57, ↓gp54_58, ↓gp54_59, ↓gp54_60, ↓gp54_61, ↓gp54_62, ↓gp54_65, ↓gp54_66, ↓gp54_67, ↓gp54_68, ↓gp54_69, ↓gp54_70, ↓gp54_71, ↓gp54_73, ↓gp54_74, ↓gp54_75, ↓gp54_76, ↓gp54_84, ↓gp54_85, ↓gp54_87, ↓gp54_88, ↓xr59, kr59, ↓xr67, kr67, ↓xr75, kr75, ↓xr82, kr82, ↓xr89, kr89, ↓xr102, kr102, ↓xr115, kr115, ↓xr276, kr276, ↓xr437, kr437, ↓xr444, kr444, ↓xr453, kr453, ↓xr536, kr536, ↓xr553, kr553, hs0, hw0, hs1, hw1, hs2, hw2, hs3, hw3, hs4, hw4, hs5, hw5, hs6, hw6, hs7, hw7, hs8, hw8, hs9, hw9, hs10, hw10, hs11, hw11, hs12, hw12, hs13, hw13, hs14, hw14, hs15, hw15, hs16, hw16, hs17, hw17, hs18, hw18, hs19, hw19, hs20, hw20, hs21, hw21, hs22, hw22, hs23, hw23, hs25, hw25, hs26, hw26, hs27, hw27, hs28, hw28, hs9b, hw9b, hs10b, hw10b, kd0, kd20, kd21, kd22, kd23, kd24, kd25, kd26, kd27, kd28, kd29, kd30, kd31, kd32, kd33, kd34, kd35, kd36, kd37, kd38, kd39, kd40, kd41, kd42, kd54, kd55, kd56, kd57, kd58, kd59, kd67, kd75, kd82, kd89, kd102, kd115, kd276, kd437, kd444, kd451, kd452, kd453, kd534, kd535, kd536, kd553, kd557, kd558, kd559, kd560, kd561, ↓xgI_u, ↓xpI_u, ↓xaI_u, ↓xsI_u, ↓xrk_u, ↓xrk0_u, ↓xob_v, ↓xmb_v, ↓xth_v, ↓xth_x, ↓jn_u, ↓xlen_u, ↓xaL_u, ↓xsL_u, ↓xbl_0, ↓xbl_1, eq_self, inb_n, inb_d, Sh_PI, Sh_PL, dk_PI, dk_PL, dr_PI, dr_PL, ↓reduceIte, Int32.reduceLE, Int32.reduceLT, Int32.reduceToNatClampNeg, Nat.reduceLT, Nat.reduceLeDiff, Nat.reduceEqDiff, Nat.reduceAdd, Nat.reduceMul, c1.1.1, c_persons c1.1.1 c1.1.2.1, i_geF hi (by omega), if_false, m_has1 hf hi7, hff, if_true, e10, hj6, i_nat (show j < 2147483648 by omega), u, c3.1.1, bit_n hi7, d1, i_succ, e4]
          have q := hnx M4 ⟨f3'.t0 f4, by rw [es]; exact g4⟩
          simp only [i_succ] at q
          exact q
def gT (b : Nat) (M : dwSt) (A : dvA) (s : gvT) : Prop := (∀ k, k < 6 → dwI M (b + 557) k = s.1 k) ∧ (∀ k, k < tJ (aT A) → dwI M (b + 558) k = s.2.1 k) ∧ dwI M (b + 54) 86 = s.2.2
theorem t_gives : ∀ d j t wt (M : dwSt) s x, j + d = tJ (aT A) + 1 → j ≤ tJ (aT A) → t < 128 → TInv b M A → gT b M A s → ∃ M', m_X10_givesFrom (d + x) M (b + 54) (Int32.ofNat j) (Int32.ofNat t) wt = some ((), M') ∧ fr (tSc b) nz 0 0 M M' ∧ gT b M' A (gvS A d j t wt s) := by
  intro d
  induction d with
  | zero => intro j t wt M s x h1 h2; omega
  | succ d ih =>
    intro j t wt M s x h1 h2 ht128 hT hg
    have o1 := hT.1.ok.1.1
    have o2 := hT.1.ok.1.2.1
    have hs := hT.1.1
    have hn := shN hs
    rw [show d + 1 + x = (d + x) + 1 by omega]
    show ∃ M', F_X10_givesFrom (m_X10_givesFrom (d + x)) M (b + 54) (Int32.ofNat j) (Int32.ofNat t) wt = _ ∧ _
    rw [gvS_e]
    by_cases e : j = tJ (aT A)
    · rw [if_pos e]
      have ej : (Int32.ofNat j = Int32.ofNat (tJ (aT A))) = True := eq_true (by rw [e])
      by_cases hc : s.2.2 < wt
      · rw [if_pos hc]
        simp -implicitDefEqProofs only [F_X10_givesFrom, ↓gp0_2, ↓gp0_3, ↓gp0_4, ↓gp0_5, ↓gp0_6, ↓gp0_7, ↓gp0_8, ↓gp0_9, ↓gp0_10, ↓gp0_18, ↓gp0_19, ↓gp0_20, ↓gp0_22, ↓gp23_43, ↓gp23_32, ↓gp23_33, ↓gp23_34, ↓gp23_35, ↓gp23_36, ↓gp29_43, ↓gp29_32, ↓gp29_33, ↓gp29_34, ↓gp29_35, ↓gp29_36, ↓gp54_53, ↓gp54_54, ↓gp54_55, ↓gp54_56, ↓gp54_57, ↓gp54_58, ↓gp54_59, ↓gp54_60, ↓gp54_61, ↓gp54_62, ↓gp54_65, ↓gp54_66, ↓gp54_67, ↓gp54_68, ↓gp54_69, ↓gp54_70, ↓gp54_71, ↓gp54_73, ↓gp54_74, ↓gp54_75, ↓gp54_76, ↓gp54_84, ↓gp54_85, ↓gp54_87, ↓gp54_88, ↓xr59, kr59, ↓xr67, kr67, ↓xr75, kr75, ↓xr82, kr82, ↓xr89, kr89, ↓xr102, kr102, ↓xr115, kr115, ↓xr276, kr276, ↓xr437, kr437, ↓xr444, kr444, ↓xr453, kr453, ↓xr536, kr536, ↓xr553, kr553, hs0, hw0, hs1, hw1, hs2, hw2, hs3, hw3, hs4, hw4, hs5, hw5, hs6, hw6, hs7, hw7, hs8, hw8, hs9, hw9, hs10, hw10, hs11, hw11, hs12, hw12, hs13, hw13, hs14, hw14, hs15, hw15, hs16, hw16, hs17, hw17, hs18, hw18, hs19, hw19, hs20, hw20, hs21, hw21, hs22, hw22, hs23, hw23, hs25, hw25, hs26, hw26, hs27, hw27, hs28, hw28, hs9b, hw9b, hs10b, hw10b, kd0, kd20, kd21, kd22, kd23, kd24, kd25, kd26, kd27, kd28, kd29, kd30, kd31, kd32, kd33, kd34, kd35, kd36, kd37, kd38, kd39, kd40, kd41, kd42, kd54, kd55, kd56, kd57, kd58, kd59, kd67, kd75, kd82, kd89, kd102, kd115, kd276, kd437, kd444, kd451, kd452, kd453, kd534, kd535, kd536, kd553, kd557, kd558, kd559, kd560, kd561, ↓xgI_u, ↓xpI_u, ↓xaI_u, ↓xsI_u, ↓xrk_u, ↓xrk0_u, ↓xob_v, ↓xmb_v, ↓xth_v, ↓xth_x, ↓jn_u, ↓xlen_u, ↓xaL_u, ↓xsL_u, ↓xbl_0, ↓xbl_1, eq_self, inb_n, inb_d, Sh_PI, Sh_PL, dk_PI, dk_PL, dr_PI, dr_PL, ↓reduceIte, Int32.reduceLE, Int32.reduceLT, Int32.reduceToNatClampNeg, Nat.reduceLT, Nat.reduceLeDiff, Nat.reduceEqDiff, Nat.reduceAdd, Nat.reduceMul, hs, hT.1.2.1.2.1, ej, if_true, hg.2.2, hc]
        have f1 := (fr.refl (S := tSc b) (Z := nz) M).pI (a := b + 54) (k := 86) wt (Or.inl (Or.inl ⟨rfl, Or.inl rfl⟩))
        refine lpx (E := fun y => ∃ M', y = some ((), M') ∧ fr (tSc b) nz 0 0 M M' ∧ gT b M' A (s.1, s.1, wt)) (fun f' i (M1 : dwSt) => L_X10_givesFrom_27 (m_X10_givesFrom (d + x)) (b + 54) (Int32.ofNat j) (fun (M34 : dwSt) => some ((), M34)) f' (Int32.ofNat i) M1) j (fun i M1 => fr (tSc b) nz 0 0 M M1 ∧ (∀ k, k < 6 → dwI M1 (b + 557) k = s.1 k) ∧ (∀ k, k < i → dwI M1 (b + 558) k = s.1 k) ∧ dwI M1 (b + 54) 86 = wt) ?_ ?_ 1000000 0 _ (by omega) (by omega) ⟨f1, fun k hk => by rw [di_ne (by omega)]; exact hg.1 k hk, fun k hk => by omega, di_eq⟩
        · intro f' M1 ⟨f2, g1, g2, g3⟩
          refine ⟨M1, ?_, f2, g1, fun k hk => g2 k (by omega), g3⟩
          simp -implicitDefEqProofs only [L_X10_givesFrom_27, i_geT, if_true]
        · intro f' i M1 hi ⟨f2, g1, g2, g3⟩ hnx
          have c1 := tinv_s hT f2
          have hi6 : i < 6 := by omega
          simp -implicitDefEqProofs only [L_X10_givesFrom_27, i_geF hi (by omega), if_false, ↓gp0_2, ↓gp0_3, ↓gp0_4, ↓gp0_5, ↓gp0_6, ↓gp0_7, ↓gp0_8, ↓gp0_9, ↓gp0_10, ↓gp0_18, ↓gp0_19, ↓gp0_20, ↓gp0_22, ↓gp23_43, ↓gp23_32, ↓gp23_33, ↓gp23_34, ↓gp23_35, ↓gp23_36, ↓gp29_43, ↓gp29_32, ↓gp29_33, ↓gp29_34, ↓gp29_35, ↓gp29_36, ↓gp54_53, ↓gp54_54, ↓gp54_55, ↓gp54_56, ↓gp54_57, ↓gp54_58, ↓gp54_59, ↓gp54_60, ↓gp54_61, ↓gp54_62, ↓gp54_65, ↓gp54_66, ↓gp54_67, ↓gp54_68, ↓gp54_69, ↓gp54_70, ↓gp54_71, ↓gp54_73, ↓gp54_74, ↓gp54_75, ↓gp54_76, ↓gp54_84, ↓gp54_85, ↓gp54_87, ↓gp54_88, ↓xr59, kr59, ↓xr67, kr67, ↓xr75, kr75, ↓xr82, kr82, ↓xr89, kr89, ↓xr102, kr102, ↓xr115, kr115, ↓xr276, kr276, ↓xr437, kr437, ↓xr444, kr444, ↓xr453, kr453, ↓xr536, kr536, ↓xr553, kr553, hs0, hw0, hs1, hw1, hs2, hw2, hs3, hw3, hs4, hw4, hs5, hw5, hs6, hw6, hs7, hw7, hs8, hw8, hs9, hw9, hs10, hw10, hs11, hw11, hs12, hw12, hs13, hw13, hs14, hw14, hs15, hw15, hs16, hw16, hs17, hw17, hs18, hw18, hs19, hw19, hs20, hw20, hs21, hw21, hs22, hw22, hs23, hw23, hs25, hw25, hs26, hw26, hs27, hw27, hs28, hw28, hs9b, hw9b, hs10b, hw10b, kd0, kd20, kd21, kd22, kd23, kd24, kd25, kd26, kd27, kd28, kd29, kd30, kd31, kd32, kd33, kd34, kd35, kd36, kd37, kd38, kd39, kd40, kd41, kd42, kd54, kd55, kd56, kd57, kd58, kd59, kd67, kd75, kd82, kd89, kd102, kd115, kd276, kd437, kd444, kd451, kd452, kd453, kd534, kd535, kd536, kd553, kd557, kd558, kd559, kd560, kd561, ↓xgI_u, ↓xpI_u, ↓xaI_u, ↓xsI_u, ↓xrk_u, ↓xrk0_u, ↓xob_v, ↓xmb_v, ↓xth_v, ↓xth_x, ↓jn_u, ↓xlen_u, ↓xaL_u, ↓xsL_u, ↓xbl_0, ↓xbl_1, eq_self, inb_n, inb_d, Sh_PI, Sh_PL, dk_PI, dk_PL, dr_PI, dr_PL, ↓reduceIte, Int32.reduceLE, Int32.reduceLT, Int32.reduceToNatClampNeg, Nat.reduceLT, Nat.reduceLeDiff, Nat.reduceEqDiff, Nat.reduceAdd, Nat.reduceMul, c1.1.1, hi6, i_nat (show i < 2147483648 by omega), g1 i hi6, i_succ]
          refine hnx _ ⟨f2.pI _ (Or.inl (by unfold tSc; omega)), fun k hk => by rw [di_ne (by omega)]; exact g1 k hk, fun k hk => ?_, by rw [di_ne (by omega)]; exact g3⟩
          by_cases q : k = i
          · subst q; exact di_eq
          · rw [di_ne (by omega)]; exact g2 k (by omega)
      · rw [if_neg hc]
        refine ⟨M, ?_, fr.refl M, hg⟩
        simp -implicitDefEqProofs only [F_X10_givesFrom, ↓gp0_2, ↓gp0_3, ↓gp0_4, ↓gp0_5, ↓gp0_6, ↓gp0_7, ↓gp0_8, ↓gp0_9, ↓gp0_10, ↓gp0_18, ↓gp0_19, ↓gp0_20, ↓gp0_22, ↓gp23_43, ↓gp23_32, ↓gp23_33, ↓gp23_34, ↓gp23_35, ↓gp23_36, ↓gp29_43, ↓gp29_32, ↓gp29_33, ↓gp29_34, ↓gp29_35, ↓gp29_36, ↓gp54_53, ↓gp54_54, ↓gp54_55, ↓gp54_56, ↓gp54_57, ↓gp54_58, ↓gp54_59, ↓gp54_60, ↓gp54_61, ↓gp54_62, ↓gp54_65, ↓gp54_66, ↓gp54_67, ↓gp54_68, ↓gp54_69, ↓gp54_70, ↓gp54_71, ↓gp54_73, ↓gp54_74, ↓gp54_75, ↓gp54_76, ↓gp54_84, ↓gp54_85, ↓gp54_87, ↓gp54_88, ↓xr59, kr59, ↓xr67, kr67, ↓xr75, kr75, ↓xr82, kr82, ↓xr89, kr89, ↓xr102, kr102, ↓xr115, kr115, ↓xr276, kr276, ↓xr437, kr437, ↓xr444, kr444, ↓xr453, kr453, ↓xr536, kr536, ↓xr553, kr553, hs0, hw0, hs1, hw1, hs2, hw2, hs3, hw3, hs4, hw4, hs5, hw5, hs6, hw6, hs7, hw7, hs8, hw8, hs9, hw9, hs10, hw10, hs11, hw11, hs12, hw12, hs13, hw13, hs14, hw14, hs15, hw15, hs16, hw16, hs17, hw17, hs18, hw18, hs19, hw19, hs20, hw20, hs21, hw21, hs22, hw22, hs23, hw23, hs25, hw25, hs26, hw26, hs27, hw27, hs28, hw28, hs9b, hw9b, hs10b, hw10b, kd0, kd20, kd21, kd22, kd23, kd24, kd25, kd26, kd27, kd28, kd29, kd30, kd31, kd32, kd33, kd34, kd35, kd36, kd37, kd38, kd39, kd40, kd41, kd42, kd54, kd55, kd56, kd57, kd58, kd59, kd67, kd75, kd82, kd89, kd102, kd115, kd276, kd437, kd444, kd451, kd452, kd453, kd534, kd535, kd536, kd553, kd557, kd558, kd559, kd560, kd561, ↓xgI_u, ↓xpI_u, ↓xaI_u, ↓xsI_u, ↓xrk_u, ↓xrk0_u, ↓xob_v, ↓xmb_v, ↓xth_v, ↓xth_x, ↓jn_u, ↓xlen_u, ↓xaL_u, ↓xsL_u, ↓xbl_0, ↓xbl_1, eq_self, inb_n, inb_d, Sh_PI, Sh_PL, dk_PI, dk_PL, dr_PI, dr_PL, ↓reduceIte, Int32.reduceLE, Int32.reduceLT, Int32.reduceToNatClampNeg, Nat.reduceLT, Nat.reduceLeDiff, Nat.reduceEqDiff, Nat.reduceAdd, Nat.reduceMul, hs, hT.1.2.1.2.1, ej, if_true, hg.2.2, hc, if_false]
    · rw [if_neg e]
      have hj6 : j < 6 := by omega
      simp -implicitDefEqProofs only [F_X10_givesFrom, ↓gp0_2, ↓gp0_3, ↓gp0_4, ↓gp0_5, ↓gp0_6, ↓gp0_7, ↓gp0_8, ↓gp0_9, ↓gp0_10, ↓gp0_18, ↓gp0_19, ↓gp0_20, ↓gp0_22, ↓gp23_43, ↓gp23_32, ↓gp23_33, ↓gp23_34, ↓gp23_35, ↓gp23_36, ↓gp29_43, ↓gp29_32, ↓gp29_33, ↓gp29_34, ↓gp29_35, ↓gp29_36, ↓gp54_53, ↓gp54_54, ↓gp54_55, ↓gp54_56, ↓gp54_57, ↓gp54_58, ↓gp54_59, ↓gp54_60, ↓gp54_61, ↓gp54_62, ↓gp54_65, ↓gp54_66, ↓gp54_67, ↓gp54_68, ↓gp54_69, ↓gp54_70, ↓gp54_71, ↓gp54_73, ↓gp54_74, ↓gp54_75, ↓gp54_76, ↓gp54_84, ↓gp54_85, ↓gp54_87, ↓gp54_88, ↓xr59, kr59, ↓xr67, kr67, ↓xr75, kr75, ↓xr82, kr82, ↓xr89, kr89, ↓xr102, kr102, ↓xr115, kr115, ↓xr276, kr276, ↓xr437, kr437, ↓xr444, kr444, ↓xr453, kr453, ↓xr536, kr536, ↓xr553, kr553, hs0, hw0, hs1, hw1, hs2, hw2, hs3, hw3, hs4, hw4, hs5, hw5, hs6, hw6, hs7, hw7, hs8, hw8, hs9, hw9, hs10, hw10, hs11, hw11, hs12, hw12, hs13, hw13, hs14, hw14, hs15, hw15, hs16, hw16, hs17, hw17, hs18, hw18, hs19, hw19, hs20, hw20, hs21, hw21, hs22, hw22, hs23, hw23, hs25, hw25, hs26, hw26, hs27, hw27, hs28, hw28, hs9b, hw9b, hs10b, hw10b, kd0, kd20, kd21, kd22, kd23, kd24, kd25, kd26, kd27, kd28, kd29, kd30, kd31, kd32, kd33, kd34, kd35, kd36, kd37, kd38, kd39, kd40, kd41, kd42, kd54, kd55, kd56, kd57, kd58, kd59, kd67, kd75, kd82, kd89, kd102, kd115, kd276, kd437, kd444, kd451, kd452, kd453, kd534, kd535, kd536, kd553, kd557, kd558, kd559, kd560, kd561, ↓xgI_u, ↓xpI_u, ↓xaI_u, ↓xsI_u, ↓xrk_u, ↓xrk0_u, ↓xob_v, ↓xmb_v, ↓xth_v, ↓xth_x, ↓jn_u, ↓xlen_u, ↓xaL_u, ↓xsL_u, ↓xbl_0, ↓xbl_1, eq_self, inb_n, inb_d, Sh_PI, Sh_PL, dk_PI, dk_PL, dr_PI, dr_PL, ↓reduceIte, Int32.reduceLE, Int32.reduceLT, Int32.reduceToNatClampNeg, Nat.reduceLT, Nat.reduceLeDiff, Nat.reduceEqDiff, Nat.reduceAdd, Nat.reduceMul, hs, hT.1.2.1.2.1, i_eqF e (by omega) (by omega), if_false]
      generalize hK : (fun (M3 : dwSt) => xgR M3 84 (b + 54) (fun v4 => xsI M3 v4 (Int32.ofNat j) (-1) (fun M5 => xrk M5 (b + 54) 3 (xmb (m_X10_givesFrom (d + x) M5 (b + 54) (Int32.ofNat j + 1) (Int32.ofNat t) wt) (fun _ M7 => some ((), M7)))))) = K
      refine lpx (E := fun y => ∃ M', y = some ((), M') ∧ fr (tSc b) nz 0 0 M M' ∧ gT b M' A (gvS A d (j + 1) t wt (rset (gvI A d j t wt s (tP (aT A))).1 j (-1), (gvI A d j t wt s (tP (aT A))).2.1, (gvI A d j t wt s (tP (aT A))).2.2))) (fun f' i (M1 : dwSt) => L_X10_givesFrom_57 (m_X10_givesFrom (d + x)) (b + 54) (Int32.ofNat j) (Int32.ofNat t) wt K f' (Int32.ofNat i) M1) (tP (aT A)) (fun i M1 => fr (tSc b) nz 0 0 M M1 ∧ gT b M1 A (gvI A d j t wt s i)) ?_ ?_ 1000000 0 M (by omega) (by omega) ⟨fr.refl M, hg⟩
      · intro f' M1 ⟨f1, g1⟩
        have c1 := tinv_s hT f1
        have f2 := f1.pI (a := b + 557) (k := j) (-1) (Or.inl (by unfold tSc; omega))
        have g2 : gT b (dwPI M1 (b + 557) j (-1)) A (rset (gvI A d j t wt s (tP (aT A))).1 j (-1), (gvI A d j t wt s (tP (aT A))).2.1, (gvI A d j t wt s (tP (aT A))).2.2) := ⟨fun k hk => by
          show _ = rset _ j (-1) k
          by_cases q : k = j
          · subst q; rw [di_eq, rset_eq]
          · rw [di_ne (by omega), rset_ne q]; exact g1.1 k hk, fun k hk => by rw [di_ne (by omega)]; exact g1.2.1 k hk, by rw [di_ne (by omega)]; exact g1.2.2⟩
        obtain ⟨M3, e3, f3, g3⟩ := ih (j + 1) t wt _ _ x (by omega) (by omega) ht128 (tinv_s hT f2) g2
        refine ⟨M3, ?_, f2.t0 f3, g3⟩
        simp -implicitDefEqProofs only [L_X10_givesFrom_57, ↓gp0_2, ↓gp0_3, ↓gp0_4, ↓gp0_5, ↓gp0_6, ↓gp0_7, ↓gp0_8, ↓gp0_9, ↓gp0_10, ↓gp0_18, ↓gp0_19, ↓gp0_20, ↓gp0_22, ↓gp23_43, ↓gp23_32, ↓gp23_33, ↓gp23_34, ↓gp23_35, ↓gp23_36, ↓gp29_43, ↓gp29_32, ↓gp29_33, ↓gp29_34, ↓gp29_35, ↓gp29_36, ↓gp54_53, ↓gp54_54, ↓gp54_55, ↓gp54_56, ↓gp54_57, ↓gp54_58, ↓gp54_59, ↓gp54_60, ↓gp54_61, ↓gp54_62, ↓gp54_65, ↓gp54_66, ↓gp54_67, ↓gp54_68, ↓gp54_69, ↓gp54_70, ↓gp54_71, ↓gp54_73, ↓gp54_74, ↓gp54_75, ↓gp54_76, ↓gp54_84, ↓gp54_85, ↓gp54_87, ↓gp54_88, ↓xr59, kr59, ↓xr67, kr67, ↓xr75, kr75, ↓xr82, kr82, ↓xr89, kr89, ↓xr102, kr102, ↓xr115, kr115, ↓xr276, kr276, ↓xr437, kr437, ↓xr444, kr444, ↓xr453, kr453, ↓xr536, kr536, ↓xr553, kr553, hs0, hw0, hs1, hw1, hs2, hw2, hs3, hw3, hs4, hw4, hs5, hw5, hs6, hw6, hs7, hw7, hs8, hw8, hs9, hw9, hs10, hw10, hs11, hw11, hs12, hw12, hs13, hw13, hs14, hw14, hs15, hw15, hs16, hw16, hs17, hw17, hs18, hw18, hs19, hw19, hs20, hw20, hs21, hw21, hs22, hw22, hs23, hw23, hs25, hw25, hs26, hw26, hs27, hw27, hs28, hw28, hs9b, hw9b, hs10b, hw10b, kd0, kd20, kd21, kd22, kd23, kd24, kd25, kd26, kd27, kd28, kd29, kd30, kd31, kd32, kd33, kd34, kd35, kd36, kd37, kd38, kd39, kd40, kd41, kd42, kd54, kd55, kd56, kd57, kd58, kd59, kd67, kd75, kd82, kd89, kd102, kd115, kd276, kd437, kd444, kd451, kd452, kd453, kd534, kd535, kd536, kd553, kd557, kd558, kd559, kd560, kd561, ↓xgI_u, ↓xpI_u, ↓xaI_u, ↓xsI_u, ↓xrk_u, ↓xrk0_u, ↓xob_v, ↓xmb_v, ↓xth_v, ↓xth_x, ↓jn_u, ↓xlen_u, ↓xaL_u, ↓xsL_u, ↓xbl_0, ↓xbl_1, eq_self, inb_n, inb_d, Sh_PI, Sh_PL, dk_PI, dk_PL, dr_PI, dr_PL, ↓reduceIte, Int32.reduceLE, Int32.reduceLT, Int32.reduceToNatClampNeg, Nat.reduceLT, Nat.reduceLeDiff, Nat.reduceEqDiff, Nat.reduceAdd, Nat.reduceMul, c1.1.1, c1.1.2.1.1, i_geT, if_true]
        rw [← hK]
        simp only [↓gp0_2, ↓gp0_3, ↓gp0_4, ↓gp0_5, ↓gp0_6, ↓gp0_7, ↓gp0_8, ↓gp0_9, ↓gp0_10, ↓gp0_18, ↓gp0_19, ↓gp0_20, ↓gp0_22, ↓gp23_43, ↓gp23_32, ↓gp23_33, ↓gp23_34, ↓gp23_35, ↓gp23_36, ↓gp29_43, ↓gp29_32, ↓gp29_33, ↓gp29_34, ↓gp29_35, ↓gp29_36, ↓gp54_53, ↓gp54_54, ↓gp54_55, ↓gp54_56, ↓gp54_57, ↓gp54_58, ↓gp54_59, ↓gp54_60, ↓gp54_61, ↓gp54_62, ↓gp54_65, ↓gp54_66, ↓gp54_67, ↓gp54_68, ↓gp54_69, ↓gp54_70, ↓gp54_71, ↓gp54_73, ↓gp54_74, ↓gp54_75, ↓gp54_76, ↓gp54_84, ↓gp54_85, ↓gp54_87, ↓gp54_88, ↓xr59, kr59, ↓xr67, kr67, ↓xr75, kr75, ↓xr82, kr82, ↓xr89, kr89, ↓xr102, kr102, ↓xr115, kr115, ↓xr276, kr276, ↓xr437, kr437, ↓xr444, kr444, ↓xr453, kr453, ↓xr536, kr536, ↓xr553, kr553, hs0, hw0, hs1, hw1, hs2, hw2, hs3, hw3, hs4, hw4, hs5, hw5, hs6, hw6, hs7, hw7, hs8, hw8, hs9, hw9, hs10, hw10, hs11, hw11, hs12, hw12, hs13, hw13, hs14, hw14, hs15, hw15, hs16, hw16, hs17, hw17, hs18, hw18, hs19, hw19, hs20, hw20, hs21, hw21, hs22, hw22, hs23, hw23, hs25, hw25, hs26, hw26, hs27, hw27, hs28, hw28, hs9b, hw9b, hs10b, hw10b, kd0, kd20, kd21, kd22, kd23, kd24, kd25, kd26, kd27, kd28, kd29, kd30, kd31, kd32, kd33, kd34, kd35, kd36, kd37, kd38, kd39, kd40, kd41, kd42, kd54, kd55, kd56, kd57, kd58, kd59, kd67, kd75, kd82, kd89, kd102, kd115, kd276, kd437, kd444, kd451, kd452, kd453, kd534, kd535, kd536, kd553, kd557, kd558, kd559, kd560, kd561, ↓xgI_u, ↓xpI_u, ↓xaI_u, ↓xsI_u, ↓xrk_u, ↓xrk0_u, ↓xob_v, ↓xmb_v, ↓xth_v, ↓xth_x, ↓jn_u, ↓xlen_u, ↓xaL_u, ↓xsL_u, ↓xbl_0, ↓xbl_1, eq_self, inb_n, inb_d, Sh_PI, Sh_PL, dk_PI, dk_PL, dr_PI, dr_PL, ↓reduceIte, Int32.reduceLE, Int32.reduceLT, Int32.reduceToNatClampNeg, Nat.reduceLT, Nat.reduceLeDiff, Nat.reduceEqDiff, Nat.reduceAdd, Nat.reduceMul, c1.1.1, hj6, i_nat (show j < 2147483648 by omega), i_succ, e3]
      · intro f' i M1 hi ⟨f1, g1⟩ hnx
        have c1 := tinv_s hT f1
        have hi7 : i < 7 := by omega
        have es := gvI_e A d j t wt s i
        show ∃ M3, L_X10_givesFrom_57 (m_X10_givesFrom (d + x)) (b + 54) (Int32.ofNat j) (Int32.ofNat t) wt K (f' + 1) (Int32.ofNat i) M1 = _ ∧ _
        by_cases ht : t.testBit i = true
        · rw [if_pos ht] at es
          simp -implicitDefEqProofs only [L_X10_givesFrom_57, ↓gp0_2, ↓gp0_3, ↓gp0_4, ↓gp0_5, ↓gp0_6, ↓gp0_7, ↓gp0_8, ↓gp0_9, ↓gp0_10, ↓gp0_18, ↓gp0_19, ↓gp0_20, ↓gp0_22, ↓gp23_43, ↓gp23_32, ↓gp23_33, ↓gp23_34, ↓gp23_35, ↓gp23_36, ↓gp29_43, ↓gp29_32, ↓gp29_33, ↓gp29_34, ↓gp29_35, ↓gp29_36, ↓gp54_53, ↓gp54_54, ↓gp54_55, ↓gp54_56, ↓gp54_57, ↓gp54_58, ↓gp54_59, ↓gp54_60, ↓gp54_61, ↓gp54_62, ↓gp54_65, ↓gp54_66, ↓gp54_67, ↓gp54_68, ↓gp54_69, ↓gp54_70, ↓gp54_71, ↓gp54_73, ↓gp54_74, ↓gp54_75, ↓gp54_76, ↓gp54_84, ↓gp54_85, ↓gp54_87, ↓gp54_88, ↓xr59, kr59, ↓xr67, kr67, ↓xr75, kr75, ↓xr82, kr82, ↓xr89, kr89, ↓xr102, kr102, ↓xr115, kr115, ↓xr276, kr276, ↓xr437, kr437, ↓xr444, kr444, ↓xr453, kr453, ↓xr536, kr536, ↓xr553, kr553, hs0, hw0, hs1, hw1, hs2, hw2, hs3, hw3, hs4, hw4, hs5, hw5, hs6, hw6, hs7, hw7, hs8, hw8, hs9, hw9, hs10, hw10, hs11, hw11, hs12, hw12, hs13, hw13, hs14, hw14, hs15, hw15, hs16, hw16, hs17, hw17, hs18, hw18, hs19, hw19, hs20, hw20, hs21, hw21, hs22, hw22, hs23, hw23, hs25, hw25, hs26, hw26, hs27, hw27, hs28, hw28, hs9b, hw9b, hs10b, hw10b, kd0, kd20, kd21, kd22, kd23, kd24, kd25, kd26, kd27, kd28, kd29, kd30, kd31, kd32, kd33, kd34, kd35, kd36, kd37, kd38, kd39, kd40, kd41, kd42, kd54, kd55, kd56, kd57, kd58, kd59, kd67, kd75, kd82, kd89, kd102, kd115, kd276, kd437, kd444, kd451, kd452, kd453, kd534, kd535, kd536, kd553, kd557, kd558, kd559, kd560, kd561, ↓xgI_u, ↓xpI_u, ↓xaI_u, ↓xsI_u, ↓xrk_u, ↓xrk0_u, ↓xob_v, ↓xmb_v, ↓xth_v, ↓xth_x, ↓jn_u, ↓xlen_u, ↓xaL_u, ↓xsL_u, ↓xbl_0, ↓xbl_1, eq_self, inb_n, inb_d, Sh_PI, Sh_PL, dk_PI, dk_PL, dr_PI, dr_PL, ↓reduceIte, Int32.reduceLE, Int32.reduceLT, Int32.reduceToNatClampNeg, Nat.reduceLT, Nat.reduceLeDiff, Nat.reduceEqDiff, Nat.reduceAdd, Nat.reduceMul, c1.1.1, c1.1.2.1.1, i_geF hi (by omega), if_false, m_has10 ht128 hi7, ht, if_true, e10, i_succ]
          exact hnx M1 ⟨f1, by rw [es]; exact g1⟩
        · rw [if_neg ht] at es
          have hff : (t.testBit i = true) = False := eq_false ht
          have f2 := f1.pI (a := b + 557) (k := j) (Int32.ofNat i) (Or.inl (by unfold tSc; omega))
          have c2 := tinv_s hT f2
          obtain ⟨M3, u, f3⟩ := t_waterOf c2.e (kd534 c2.1.1) (show j < tJ (aT A) by omega) hi
          rw [c2.1.2.2.2.2.1] at u
          have f3' := f2.t0 (sKn_s f3)
          have c3 := tinv_s hT f3'
          have hn1 := shN c2.1.1
          have g3 : gT b M3 A (rset (gvI A d j t wt s i).1 j (Int32.ofNat i), (gvI A d j t wt s i).2.1, (gvI A d j t wt s i).2.2) := ⟨fun k hk => by
            show _ = rset _ j _ k
            rw [f3.i (by omega) (fun q => by unfold sKn at q; omega)]
            by_cases q : k = j
            · subst q; rw [di_eq, rset_eq]
            · rw [di_ne (by omega), rset_ne q]; exact g1.1 k hk, fun k hk => by rw [f3.i (by omega) (fun q => by unfold sKn at q; omega), di_ne (by omega)]; exact g1.2.1 k hk, by rw [f3.i (by omega) (fun q => by unfold sKn at q; omega), di_ne (by omega)]; exact g1.2.2⟩
          obtain ⟨M4, e4, f4, g4⟩ := ih (j + 1) (t ||| 2 ^ i) (wt + watS (aT A) (aLw A) (aNow A) j i) M3 _ x (by omega) (by omega) (Nat.or_lt_two_pow (n := 7) ht128 (Nat.pow_lt_pow_right (by omega) hi7)) c3 g3
          simp -implicitDefEqProofs only [L_X10_givesFrom_57, ↓gp0_2, ↓gp0_3, ↓gp0_4, ↓gp0_5, ↓gp0_6, ↓gp0_7, ↓gp0_8, ↓gp0_9, ↓gp0_10, ↓gp0_18, ↓gp0_19, ↓gp0_20, ↓gp0_22, ↓gp23_43, ↓gp23_32, ↓gp23_33, ↓gp23_34, ↓gp23_35, ↓gp23_36, ↓gp29_43, ↓gp29_32, ↓gp29_33, ↓gp29_34, ↓gp29_35, ↓gp29_36, ↓gp54_53, ↓gp54_54, ↓gp54_55, ↓gp54_56, ↓gp54_57, ↓gp54_58, ↓gp54_59, ↓gp54_60, ↓gp54_61, ↓gp54_62, ↓gp54_65, ↓gp54_66, ↓gp54_67, ↓gp54_68, ↓gp54_69, ↓gp54_70, ↓gp54_71, ↓gp54_73, ↓gp54_74, ↓gp54_75, ↓gp54_76, ↓gp54_84, ↓gp54_85, ↓gp54_87, ↓gp54_88, ↓xr59, kr59, ↓xr67, kr67, ↓xr75, kr75, ↓xr82, kr82, ↓xr89, kr89, ↓xr102, kr102, ↓xr115, kr115, ↓xr276, kr276, ↓xr437, kr437, ↓xr444, kr444, ↓xr453, kr453, ↓xr536, kr536, ↓xr553, kr553, hs0, hw0, hs1, hw1, hs2, hw2, hs3, hw3, hs4, hw4, hs5, hw5, hs6, hw6, hs7, hw7, hs8, hw8, hs9, hw9, hs10, hw10, hs11, hw11, hs12, hw12, hs13, hw13, hs14, hw14, hs15, hw15, hs16, hw16, hs17, hw17, hs18, hw18, hs19, hw19, hs20, hw20, hs21, hw21, hs22, hw22, hs23, hw23, hs25, hw25, hs26, hw26, hs27, hw27, hs28, hw28, hs9b, hw9b, hs10b, hw10b, kd0, kd20, kd21, kd22, kd23, kd24, kd25, kd26, kd27, kd28, kd29, kd30, kd31, kd32, kd33, kd34, kd35, kd36, kd37, kd38, kd39, kd40, kd41, kd42, kd54, kd55, kd56, kd57, kd58, kd59, kd67, kd75, kd82, kd89, kd102, kd115, kd276, kd437, kd444, kd451, kd452, kd453, kd534, kd535, kd536, kd553, kd557, kd558, kd559, kd560, kd561, ↓xgI_u, ↓xpI_u, ↓xaI_u, ↓xsI_u, ↓xrk_u, ↓xrk0_u, ↓xob_v, ↓xmb_v, ↓xth_v, ↓xth_x, ↓jn_u, ↓xlen_u, ↓xaL_u, ↓xsL_u, ↓xbl_0, ↓xbl_1, eq_self, inb_n, inb_d, Sh_PI, Sh_PL, dk_PI, dk_PL, dr_PI, dr_PL, ↓reduceIte, Int32.reduceLE, Int32.reduceLT, Int32.reduceToNatClampNeg, Nat.reduceLT, Nat.reduceLeDiff, Nat.reduceEqDiff, Nat.reduceAdd, Nat.reduceMul, c1.1.1, c1.1.2.1.1, i_geF hi (by omega), if_false, m_has10 ht128 hi7, hff, if_true, hj6, i_nat (show j < 2147483648 by omega), u, c3.1.1, bit_n hi7, i_or, i_succ, e4]
          exact hnx M4 ⟨f3'.t0 f4, by rw [es]; exact g4⟩
variable {M : dwSt}
def gvZ (A : dvA) (W B : Nat → Int32) : gvT := gvS A (tJ (aT A) + 1) 0 (whoN (tP (aT A)) (aNow A) 14) 0 (W, B, -1)
theorem c_findBest (hC : CInv b w M A) : ∃ M1 W B, m_X1_findBest M b = some ((), M1) ∧ fr (cSc b) nz 0 0 M M1 ∧ gC b M1 (gvZ A W B) := by
  have o1 := hC.1.ok.1.1
  have o2 := hC.1.ok.1.2.1
  have h128 := p2_le o1
  have hs := hC.1.1
  have f1 := (fr.refl (S := cSc b) (Z := nz) M).pI (a := b) (k := 21) (-1) (Or.inl (Or.inl ⟨rfl, Or.inr rfl⟩))
  have c1 := cinv_s hC f1
  have hp : 0 < 2 ^ tP (aT A) := Nat.two_pow_pos _
  have hwl := whoN_lt (r := aNow A) (o := 14) o1
  obtain ⟨d1, d2, d3⟩ := drop_n (a := 2 ^ tP (aT A) - 1) (c := whoN (tP (aT A)) (aNow A) 14) (by omega)
  have r6 := c1.1.2.2.2.2.1.2.2.2.2.2.2.1
  rw [who_n o1] at r6
  obtain ⟨M2, e2, f2, g2⟩ := c_gives (tJ (aT A) + 1) 0 (whoN (tP (aT A)) (aNow A) 14) _ 0 (dwPI M b 21 (-1)) (dwI M (b + 40), dwI M (b + 41), -1) (20 - (tJ (aT A) + 1)) (by omega) (by omega) d2 (fun p hp => by
    rw [d3, Nat.testBit_two_pow_sub_one, decide_eq_true hp, Bool.true_and]) c1 ⟨fun k hk => di_ne (by omega), fun k hk => di_ne (by omega), di_eq⟩
  rw [show tJ (aT A) + 1 + (20 - (tJ (aT A) + 1)) = 20 by omega] at e2
  refine ⟨M2, _, _, ?_, f1.t0 f2, g2⟩
  have e2' : m_X1_givesOn 20 (dwPI M b 21 (-1)) b 0 _ 0 = some ((), M2) := e2
  simp -implicitDefEqProofs only [m_X1_findBest, ↓gp0_2, ↓gp0_3, ↓gp0_4, ↓gp0_5, ↓gp0_6, ↓gp0_7, ↓gp0_8, ↓gp0_9, ↓gp0_10, ↓gp0_18, ↓gp0_19, ↓gp0_20, ↓gp0_22, ↓gp23_43, ↓gp23_32, ↓gp23_33, ↓gp23_34, ↓gp23_35, ↓gp23_36, ↓gp29_43, ↓gp29_32, ↓gp29_33, ↓gp29_34, ↓gp29_35, ↓gp29_36, ↓gp54_53, ↓gp54_54, ↓gp54_55, ↓gp54_56, ↓gp54_57, ↓gp54_58, ↓gp54_59, ↓gp54_60, ↓gp54_61, ↓gp54_62, ↓gp54_65, ↓gp54_66, ↓gp54_67, ↓gp54_68, ↓gp54_69, ↓gp54_70, ↓gp54_71, ↓gp54_73, ↓gp54_74, ↓gp54_75, ↓gp54_76, ↓gp54_84, ↓gp54_85, ↓gp54_87, ↓gp54_88, ↓xr59, kr59, ↓xr67, kr67, ↓xr75, kr75, ↓xr82, kr82, ↓xr89, kr89, ↓xr102, kr102, ↓xr115, kr115, ↓xr276, kr276, ↓xr437, kr437, ↓xr444, kr444, ↓xr453, kr453, ↓xr536, kr536, ↓xr553, kr553, hs0, hw0, hs1, hw1, hs2, hw2, hs3, hw3, hs4, hw4, hs5, hw5, hs6, hw6, hs7, hw7, hs8, hw8, hs9, hw9, hs10, hw10, hs11, hw11, hs12, hw12, hs13, hw13, hs14, hw14, hs15, hw15, hs16, hw16, hs17, hw17, hs18, hw18, hs19, hw19, hs20, hw20, hs21, hw21, hs22, hw22, hs23, hw23, hs25, hw25, hs26, hw26, hs27, hw27, hs28, hw28, hs9b, hw9b, hs10b, hw10b, kd0, kd20, kd21, kd22, kd23, kd24, kd25, kd26, kd27, kd28, kd29, kd30, kd31, kd32, kd33, kd34, kd35, kd36, kd37, kd38, kd39, kd40, kd41, kd42, kd54, kd55, kd56, kd57, kd58, kd59, kd67, kd75, kd82, kd89, kd102, kd115, kd276, kd437, kd444, kd451, kd452, kd453, kd534, kd535, kd536, kd553, kd557, kd558, kd559, kd560, kd561, ↓xgI_u, ↓xpI_u, ↓xaI_u, ↓xsI_u, ↓xrk_u, ↓xrk0_u, ↓xob_v, ↓xmb_v, ↓xth_v, ↓xth_x, ↓jn_u, ↓xlen_u, ↓xaL_u, ↓xsL_u, ↓xbl_0, ↓xbl_1, eq_self, inb_n, inb_d, Sh_PI, Sh_PL, dk_PI, dk_PL, dr_PI, dr_PL, ↓reduceIte, Int32.reduceLE, Int32.reduceLT, Int32.reduceToNatClampNeg, Nat.reduceLT, Nat.reduceLeDiff, Nat.reduceEqDiff, Nat.reduceAdd, Nat.reduceMul, hs, c_all c1, r6, d1, e2']
theorem t_findBest (hT : TInv b M A) : ∃ M1 W B, m_X10_gives M (b + 54) = some ((), M1) ∧ fr (tSc b) nz 0 0 M M1 ∧ gT b M1 A (gvZ A W B) := by
  have o1 := hT.1.ok.1.1
  have o2 := hT.1.ok.1.2.1
  have hs := hT.1.1
  have f1 := (fr.refl (S := tSc b) (Z := nz) M).pI (a := b + 54) (k := 86) (-1) (Or.inl (Or.inl ⟨rfl, Or.inl rfl⟩))
  have c1 := tinv_s hT f1
  have hwl := whoN_lt (r := aNow A) (o := 14) o1
  have w14 : m_X10_whoHas (dwPI M (b + 54) 86 (-1)) (b + 54) (b + 534) 14 = _ := t_whoHas (o := 14) c1.1.1 c1.1.2.1 (kd534 c1.1.1) (by omega)
  rw [c1.1.2.2.2.2.1, who_n o1] at w14
  obtain ⟨M2, e2, f2, g2⟩ := t_gives (tJ (aT A) + 1) 0 (whoN (tP (aT A)) (aNow A) 14) 0 (dwPI M (b + 54) 86 (-1)) (dwI M (b + 557), dwI M (b + 558), -1) (20 - (tJ (aT A) + 1)) (by omega) (by omega) hwl c1 ⟨fun k hk => di_ne (by omega), fun k hk => di_ne (by omega), di_eq⟩
  rw [show tJ (aT A) + 1 + (20 - (tJ (aT A) + 1)) = 20 by omega] at e2
  refine ⟨M2, _, _, ?_, f1.t0 f2, g2⟩
  have e2' : m_X10_givesFrom 20 (dwPI M (b + 54) 86 (-1)) (b + 54) 0 _ 0 = some ((), M2) := e2
  simp -implicitDefEqProofs only [m_X10_gives, ↓gp0_2, ↓gp0_3, ↓gp0_4, ↓gp0_5, ↓gp0_6, ↓gp0_7, ↓gp0_8, ↓gp0_9, ↓gp0_10, ↓gp0_18, ↓gp0_19, ↓gp0_20, ↓gp0_22, ↓gp23_43, ↓gp23_32, ↓gp23_33, ↓gp23_34, ↓gp23_35, ↓gp23_36, ↓gp29_43, ↓gp29_32, ↓gp29_33, ↓gp29_34, ↓gp29_35, ↓gp29_36, ↓gp54_53, ↓gp54_54, ↓gp54_55, ↓gp54_56, ↓gp54_57, ↓gp54_58, ↓gp54_59, ↓gp54_60, ↓gp54_61, ↓gp54_62, ↓gp54_65, ↓gp54_66, ↓gp54_67, ↓gp54_68, ↓gp54_69, ↓gp54_70, ↓gp54_71, ↓gp54_73, ↓gp54_74, ↓gp54_75, ↓gp54_76, ↓gp54_84, ↓gp54_85, ↓gp54_87, ↓gp54_88, ↓xr59, kr59, ↓xr67, kr67, ↓xr75, kr75, ↓xr82, kr82, ↓xr89, kr89, ↓xr102, kr102, ↓xr115, kr115, ↓xr276, kr276, ↓xr437, kr437, ↓xr444, kr444, ↓xr453, kr453, ↓xr536, kr536, ↓xr553, kr553, hs0, hw0, hs1, hw1, hs2, hw2, hs3, hw3, hs4, hw4, hs5, hw5, hs6, hw6, hs7, hw7, hs8, hw8, hs9, hw9, hs10, hw10, hs11, hw11, hs12, hw12, hs13, hw13, hs14, hw14, hs15, hw15, hs16, hw16, hs17, hw17, hs18, hw18, hs19, hw19, hs20, hw20, hs21, hw21, hs22, hw22, hs23, hw23, hs25, hw25, hs26, hw26, hs27, hw27, hs28, hw28, hs9b, hw9b, hs10b, hw10b, kd0, kd20, kd21, kd22, kd23, kd24, kd25, kd26, kd27, kd28, kd29, kd30, kd31, kd32, kd33, kd34, kd35, kd36, kd37, kd38, kd39, kd40, kd41, kd42, kd54, kd55, kd56, kd57, kd58, kd59, kd67, kd75, kd82, kd89, kd102, kd115, kd276, kd437, kd444, kd451, kd452, kd453, kd534, kd535, kd536, kd553, kd557, kd558, kd559, kd560, kd561, ↓xgI_u, ↓xpI_u, ↓xaI_u, ↓xsI_u, ↓xrk_u, ↓xrk0_u, ↓xob_v, ↓xmb_v, ↓xth_v, ↓xth_x, ↓jn_u, ↓xlen_u, ↓xaL_u, ↓xsL_u, ↓xbl_0, ↓xbl_1, eq_self, inb_n, inb_d, Sh_PI, Sh_PL, dk_PI, dk_PL, dr_PI, dr_PL, ↓reduceIte, Int32.reduceLE, Int32.reduceLT, Int32.reduceToNatClampNeg, Nat.reduceLT, Nat.reduceLeDiff, Nat.reduceEqDiff, Nat.reduceAdd, Nat.reduceMul, hs, w14, e2']
theorem call_best (hC : CInv b w M A) (hT : TInv b M A) : agree2 b M (fun M => m_X1_best M b) (fun M => m_X10_best M (b + 54)) := by
  obtain ⟨M1, W, B, e, f, g⟩ := c_findBest hC
  refine agree2_mkz (v := (gvZ A W B).2.2) hC hT ⟨M1, ?_, f⟩ fun M1 h1 hf => ?_
  · have c1 := cinv_s hC f
    simp -implicitDefEqProofs only [m_X1_best, ↓gp0_2, ↓gp0_3, ↓gp0_4, ↓gp0_5, ↓gp0_6, ↓gp0_7, ↓gp0_8, ↓gp0_9, ↓gp0_10, ↓gp0_18, ↓gp0_19, ↓gp0_20, ↓gp0_22, ↓gp23_43, ↓gp23_32, ↓gp23_33, ↓gp23_34, ↓gp23_35, ↓gp23_36, ↓gp29_43, ↓gp29_32, ↓gp29_33, ↓gp29_34, ↓gp29_35, ↓gp29_36, ↓gp54_53, ↓gp54_54, ↓gp54_55, ↓gp54_56, ↓gp54_57, ↓gp54_58, ↓gp54_59, ↓gp54_60, ↓gp54_61, ↓gp54_62, ↓gp54_65, ↓gp54_66, ↓gp54_67, ↓gp54_68, ↓gp54_69, ↓gp54_70, ↓gp54_71, ↓gp54_73, ↓gp54_74, ↓gp54_75, ↓gp54_76, ↓gp54_84, ↓gp54_85, ↓gp54_87, ↓gp54_88, ↓xr59, kr59, ↓xr67, kr67, ↓xr75, kr75, ↓xr82, kr82, ↓xr89, kr89, ↓xr102, kr102, ↓xr115, kr115, ↓xr276, kr276, ↓xr437, kr437, ↓xr444, kr444, ↓xr453, kr453, ↓xr536, kr536, ↓xr553, kr553, hs0, hw0, hs1, hw1, hs2, hw2, hs3, hw3, hs4, hw4, hs5, hw5, hs6, hw6, hs7, hw7, hs8, hw8, hs9, hw9, hs10, hw10, hs11, hw11, hs12, hw12, hs13, hw13, hs14, hw14, hs15, hw15, hs16, hw16, hs17, hw17, hs18, hw18, hs19, hw19, hs20, hw20, hs21, hw21, hs22, hw22, hs23, hw23, hs25, hw25, hs26, hw26, hs27, hw27, hs28, hw28, hs9b, hw9b, hs10b, hw10b, kd0, kd20, kd21, kd22, kd23, kd24, kd25, kd26, kd27, kd28, kd29, kd30, kd31, kd32, kd33, kd34, kd35, kd36, kd37, kd38, kd39, kd40, kd41, kd42, kd54, kd55, kd56, kd57, kd58, kd59, kd67, kd75, kd82, kd89, kd102, kd115, kd276, kd437, kd444, kd451, kd452, kd453, kd534, kd535, kd536, kd553, kd557, kd558, kd559, kd560, kd561, ↓xgI_u, ↓xpI_u, ↓xaI_u, ↓xsI_u, ↓xrk_u, ↓xrk0_u, ↓xob_v, ↓xmb_v, ↓xth_v, ↓xth_x, ↓jn_u, ↓xlen_u, ↓xaL_u, ↓xsL_u, ↓xbl_0, ↓xbl_1, eq_self, inb_n, inb_d, Sh_PI, Sh_PL, dk_PI, dk_PL, dr_PI, dr_PL, ↓reduceIte, Int32.reduceLE, Int32.reduceLT, Int32.reduceToNatClampNeg, Nat.reduceLT, Nat.reduceLeDiff, Nat.reduceEqDiff, Nat.reduceAdd, Nat.reduceMul, hC.1.1, e, c1.1.1, g.2.2]
  · obtain ⟨hT0, fz, z0⟩ := tinv_z h1
    obtain ⟨M2, W', B', e2, f2, g2⟩ := t_findBest hT0
    have c2 := tinv_s hT0 f2
    refine ⟨M2, ?_, f2⟩
    have hq : (gvZ A W' B').2.2 = (gvZ A W B).2.2 := gv_same.1
    simp -implicitDefEqProofs only [m_X10_best, ↓gp0_2, ↓gp0_3, ↓gp0_4, ↓gp0_5, ↓gp0_6, ↓gp0_7, ↓gp0_8, ↓gp0_9, ↓gp0_10, ↓gp0_18, ↓gp0_19, ↓gp0_20, ↓gp0_22, ↓gp23_43, ↓gp23_32, ↓gp23_33, ↓gp23_34, ↓gp23_35, ↓gp23_36, ↓gp29_43, ↓gp29_32, ↓gp29_33, ↓gp29_34, ↓gp29_35, ↓gp29_36, ↓gp54_53, ↓gp54_54, ↓gp54_55, ↓gp54_56, ↓gp54_57, ↓gp54_58, ↓gp54_59, ↓gp54_60, ↓gp54_61, ↓gp54_62, ↓gp54_65, ↓gp54_66, ↓gp54_67, ↓gp54_68, ↓gp54_69, ↓gp54_70, ↓gp54_71, ↓gp54_73, ↓gp54_74, ↓gp54_75, ↓gp54_76, ↓gp54_84, ↓gp54_85, ↓gp54_87, ↓gp54_88, ↓xr59, kr59, ↓xr67, kr67, ↓xr75, kr75, ↓xr82, kr82, ↓xr89, kr89, ↓xr102, kr102, ↓xr115, kr115, ↓xr276, kr276, ↓xr437, kr437, ↓xr444, kr444, ↓xr453, kr453, ↓xr536, kr536, ↓xr553, kr553, hs0, hw0, hs1, hw1, hs2, hw2, hs3, hw3, hs4, hw4, hs5, hw5, hs6, hw6, hs7, hw7, hs8, hw8, hs9, hw9, hs10, hw10, hs11, hw11, hs12, hw12, hs13, hw13, hs14, hw14, hs15, hw15, hs16, hw16, hs17, hw17, hs18, hw18, hs19, hw19, hs20, hw20, hs21, hw21, hs22, hw22, hs23, hw23, hs25, hw25, hs26, hw26, hs27, hw27, hs28, hw28, hs9b, hw9b, hs10b, hw10b, kd0, kd20, kd21, kd22, kd23, kd24, kd25, kd26, kd27, kd28, kd29, kd30, kd31, kd32, kd33, kd34, kd35, kd36, kd37, kd38, kd39, kd40, kd41, kd42, kd54, kd55, kd56, kd57, kd58, kd59, kd67, kd75, kd82, kd89, kd102, kd115, kd276, kd437, kd444, kd451, kd452, kd453, kd534, kd535, kd536, kd553, kd557, kd558, kd559, kd560, kd561, ↓xgI_u, ↓xpI_u, ↓xaI_u, ↓xsI_u, ↓xrk_u, ↓xrk0_u, ↓xob_v, ↓xmb_v, ↓xth_v, ↓xth_x, ↓jn_u, ↓xlen_u, ↓xaL_u, ↓xsL_u, ↓xbl_0, ↓xbl_1, eq_self, inb_n, inb_d, Sh_PI, Sh_PL, dk_PI, dk_PL, dr_PI, dr_PL, ↓reduceIte, Int32.reduceLE, Int32.reduceLT, Int32.reduceToNatClampNeg, Nat.reduceLT, Nat.reduceLeDiff, Nat.reduceEqDiff, Nat.reduceAdd, Nat.reduceMul, h1.1.1, e2, c2.1.1, g2.2.2, hq]
theorem call_given (hC : CInv b w M A) (hT : TInv b M A) (hR : room M 1 6) (x : Int32) : agree b M (fun M => m_X0_given M b x (b + 561)) (fun M => m_X10_given M (b + 54) x) := by
  have o2 := hC.1.ok.1.2.1
  rcases in_or x (tJ (aT A)) with ⟨j, hj, rfl⟩ | hx
  · have hj6 : j < 6 := by omega
    obtain ⟨M1, W, B, e, f, g⟩ := c_findBest hC
    have c1 := cinv_s hC f
    refine agree_mk (A' := A) (k := 0) (v := (gvZ A W B).2.1 j) hT (c_okk (f := fun M => m_X0_given M b (Int32.ofNat j) (b + 561)) (x := m_X1_given M b (Int32.ofNat j)) hC ⟨M1, ?_, f⟩ fun M1 e k => by simp -implicitDefEqProofs only [m_X0_given, ↓xgI_u, ↓xpI_u, ↓xaI_u, ↓xsI_u, ↓xrk_u, ↓xrk0_u, ↓xob_v, ↓xmb_v, ↓xth_v, ↓xth_x, ↓jn_u, ↓xlen_u, ↓xaL_u, ↓xsL_u, ↓xbl_0, ↓xbl_1, eq_self, inb_n, inb_d, Sh_PI, Sh_PL, dk_PI, dk_PL, dr_PI, dr_PL, ↓reduceIte, Int32.reduceLE, Int32.reduceLT, Int32.reduceToNatClampNeg, Nat.reduceLT, Nat.reduceLeDiff, Nat.reduceEqDiff, Nat.reduceAdd, Nat.reduceMul, kd0 hC.1.1, e, k]) fun M1 h1 => ?_
    · simp -implicitDefEqProofs only [m_X1_given, ↓gp0_2, ↓gp0_3, ↓gp0_4, ↓gp0_5, ↓gp0_6, ↓gp0_7, ↓gp0_8, ↓gp0_9, ↓gp0_10, ↓gp0_18, ↓gp0_19, ↓gp0_20, ↓gp0_22, ↓gp23_43, ↓gp23_32, ↓gp23_33, ↓gp23_34, ↓gp23_35, ↓gp23_36, ↓gp29_43, ↓gp29_32, ↓gp29_33, ↓gp29_34, ↓gp29_35, ↓gp29_36, ↓gp54_53, ↓gp54_54, ↓gp54_55, ↓gp54_56, ↓gp54_57, ↓gp54_58, ↓gp54_59, ↓gp54_60, ↓gp54_61, ↓gp54_62, ↓gp54_65, ↓gp54_66, ↓gp54_67, ↓gp54_68, ↓gp54_69, ↓gp54_70, ↓gp54_71, ↓gp54_73, ↓gp54_74, ↓gp54_75, ↓gp54_76, ↓gp54_84, ↓gp54_85, ↓gp54_87, ↓gp54_88, ↓xr59, kr59, ↓xr67, kr67, ↓xr75, kr75, ↓xr82, kr82, ↓xr89, kr89, ↓xr102, kr102, ↓xr115, kr115, ↓xr276, kr276, ↓xr437, kr437, ↓xr444, kr444, ↓xr453, kr453, ↓xr536, kr536, ↓xr553, kr553, hs0, hw0, hs1, hw1, hs2, hw2, hs3, hw3, hs4, hw4, hs5, hw5, hs6, hw6, hs7, hw7, hs8, hw8, hs9, hw9, hs10, hw10, hs11, hw11, hs12, hw12, hs13, hw13, hs14, hw14, hs15, hw15, hs16, hw16, hs17, hw17, hs18, hw18, hs19, hw19, hs20, hw20, hs21, hw21, hs22, hw22, hs23, hw23, hs25, hw25, hs26, hw26, hs27, hw27, hs28, hw28, hs9b, hw9b, hs10b, hw10b, kd0, kd20, kd21, kd22, kd23, kd24, kd25, kd26, kd27, kd28, kd29, kd30, kd31, kd32, kd33, kd34, kd35, kd36, kd37, kd38, kd39, kd40, kd41, kd42, kd54, kd55, kd56, kd57, kd58, kd59, kd67, kd75, kd82, kd89, kd102, kd115, kd276, kd437, kd444, kd451, kd452, kd453, kd534, kd535, kd536, kd553, kd557, kd558, kd559, kd560, kd561, ↓xgI_u, ↓xpI_u, ↓xaI_u, ↓xsI_u, ↓xrk_u, ↓xrk0_u, ↓xob_v, ↓xmb_v, ↓xth_v, ↓xth_x, ↓jn_u, ↓xlen_u, ↓xaL_u, ↓xsL_u, ↓xbl_0, ↓xbl_1, eq_self, inb_n, inb_d, Sh_PI, Sh_PL, dk_PI, dk_PL, dr_PI, dr_PL, ↓reduceIte, Int32.reduceLE, Int32.reduceLT, Int32.reduceToNatClampNeg, Nat.reduceLT, Nat.reduceLeDiff, Nat.reduceEqDiff, Nat.reduceAdd, Nat.reduceMul, hC.1.1, c_needJT hC hj, e, c1.1.1, hj6, i_nat (show j < 2147483648 by omega), g.2.1 j hj6]
    · obtain ⟨hT0, fz, z0⟩ := tinv_z h1
      obtain ⟨M2, W', B', e2, f2, g2⟩ := t_findBest hT0
      have c2 := tinv_s hT0 f2
      refine t_okk (g := fun M => m_X10_given M (b + 54) (Int32.ofNat j)) h1 ⟨M2, ?_, f2⟩
      have hq : (gvZ A W' B').2.1 j = (gvZ A W B).2.1 j := gv_same.2 j hj
      simp -implicitDefEqProofs only [m_X10_given, ↓gp0_2, ↓gp0_3, ↓gp0_4, ↓gp0_5, ↓gp0_6, ↓gp0_7, ↓gp0_8, ↓gp0_9, ↓gp0_10, ↓gp0_18, ↓gp0_19, ↓gp0_20, ↓gp0_22, ↓gp23_43, ↓gp23_32, ↓gp23_33, ↓gp23_34, ↓gp23_35, ↓gp23_36, ↓gp29_43, ↓gp29_32, ↓gp29_33, ↓gp29_34, ↓gp29_35, ↓gp29_36, ↓gp54_53, ↓gp54_54, ↓gp54_55, ↓gp54_56, ↓gp54_57, ↓gp54_58, ↓gp54_59, ↓gp54_60, ↓gp54_61, ↓gp54_62, ↓gp54_65, ↓gp54_66, ↓gp54_67, ↓gp54_68, ↓gp54_69, ↓gp54_70, ↓gp54_71, ↓gp54_73, ↓gp54_74, ↓gp54_75, ↓gp54_76, ↓gp54_84, ↓gp54_85, ↓gp54_87, ↓gp54_88, ↓xr59, kr59, ↓xr67, kr67, ↓xr75, kr75, ↓xr82, kr82, ↓xr89, kr89, ↓xr102, kr102, ↓xr115, kr115, ↓xr276, kr276, ↓xr437, kr437, ↓xr444, kr444, ↓xr453, kr453, ↓xr536, kr536, ↓xr553, kr553, hs0, hw0, hs1, hw1, hs2, hw2, hs3, hw3, hs4, hw4, hs5, hw5, hs6, hw6, hs7, hw7, hs8, hw8, hs9, hw9, hs10, hw10, hs11, hw11, hs12, hw12, hs13, hw13, hs14, hw14, hs15, hw15, hs16, hw16, hs17, hw17, hs18, hw18, hs19, hw19, hs20, hw20, hs21, hw21, hs22, hw22, hs23, hw23, hs25, hw25, hs26, hw26, hs27, hw27, hs28, hw28, hs9b, hw9b, hs10b, hw10b, kd0, kd20, kd21, kd22, kd23, kd24, kd25, kd26, kd27, kd28, kd29, kd30, kd31, kd32, kd33, kd34, kd35, kd36, kd37, kd38, kd39, kd40, kd41, kd42, kd54, kd55, kd56, kd57, kd58, kd59, kd67, kd75, kd82, kd89, kd102, kd115, kd276, kd437, kd444, kd451, kd452, kd453, kd534, kd535, kd536, kd553, kd557, kd558, kd559, kd560, kd561, ↓xgI_u, ↓xpI_u, ↓xaI_u, ↓xsI_u, ↓xrk_u, ↓xrk0_u, ↓xob_v, ↓xmb_v, ↓xth_v, ↓xth_x, ↓jn_u, ↓xlen_u, ↓xaL_u, ↓xsL_u, ↓xbl_0, ↓xbl_1, eq_self, inb_n, inb_d, Sh_PI, Sh_PL, dk_PI, dk_PL, dr_PI, dr_PL, ↓reduceIte, Int32.reduceLE, Int32.reduceLT, Int32.reduceToNatClampNeg, Nat.reduceLT, Nat.reduceLeDiff, Nat.reduceEqDiff, Nat.reduceAdd, Nat.reduceMul, h1.1.1, t_isJ hT0.1.1 hT0.1.2.1, t_inT hj (by omega), e10, t_bad0 hT0.1.1 z0, e2, c2.1.1, hj6, i_nat (show j < 2147483648 by omega), g2.2.1 j hj, hq]
  · refine agree_mk (A' := aBump A 0) (k := 1) (v := 0) hT (c_err (w := w) (f := fun M => m_X0_given M b x (b + 561)) (v := 0) (x := m_X1_given M b x) (cl := 2) (k := 1) (i := 0) (by decide) ?_ ?_) fun M1 h1 => t_err (g := fun M => m_X10_given M (b + 54) x) (v := 0) (x := 1) (i := 0) h1 (by decide) (by decide) ?_
    · obtain ⟨M1, q, e, h⟩ := c_needJF hC hx hR
      exact ⟨M1, q, by simp -implicitDefEqProofs only [m_X1_given, ↓xgI_u, ↓xpI_u, ↓xaI_u, ↓xsI_u, ↓xrk_u, ↓xrk0_u, ↓xob_v, ↓xmb_v, ↓xth_v, ↓xth_x, ↓jn_u, ↓xlen_u, ↓xaL_u, ↓xsL_u, ↓xbl_0, ↓xbl_1, eq_self, inb_n, inb_d, Sh_PI, Sh_PL, dk_PI, dk_PL, dr_PI, dr_PL, ↓reduceIte, Int32.reduceLE, Int32.reduceLT, Int32.reduceToNatClampNeg, Nat.reduceLT, Nat.reduceLeDiff, Nat.reduceEqDiff, Nat.reduceAdd, Nat.reduceMul, kd0 hC.1.1, e], h⟩
    · intro M1 q e
      simp -implicitDefEqProofs only [m_X0_given, ↓xgI_u, ↓xpI_u, ↓xaI_u, ↓xsI_u, ↓xrk_u, ↓xrk0_u, ↓xob_v, ↓xmb_v, ↓xth_v, ↓xth_x, ↓jn_u, ↓xlen_u, ↓xaL_u, ↓xsL_u, ↓xbl_0, ↓xbl_1, eq_self, inb_n, inb_d, Sh_PI, Sh_PL, dk_PI, dk_PL, dr_PI, dr_PL, ↓reduceIte, Int32.reduceLE, Int32.reduceLT, Int32.reduceToNatClampNeg, Nat.reduceLT, Nat.reduceLeDiff, Nat.reduceEqDiff, Nat.reduceAdd, Nat.reduceMul, kd0 hC.1.1, e]
    · intro M2 e
      obtain ⟨hT0, f0, z0⟩ := tinv_z h1
      have e' : m_X10_bad (dwPI M1 (b + 54) 44 0) (b + 54) 1 1 0 = some (1, M2) := e
      simp -implicitDefEqProofs only [m_X10_given, ↓gp0_2, ↓gp0_3, ↓gp0_4, ↓gp0_5, ↓gp0_6, ↓gp0_7, ↓gp0_8, ↓gp0_9, ↓gp0_10, ↓gp0_18, ↓gp0_19, ↓gp0_20, ↓gp0_22, ↓gp23_43, ↓gp23_32, ↓gp23_33, ↓gp23_34, ↓gp23_35, ↓gp23_36, ↓gp29_43, ↓gp29_32, ↓gp29_33, ↓gp29_34, ↓gp29_35, ↓gp29_36, ↓gp54_53, ↓gp54_54, ↓gp54_55, ↓gp54_56, ↓gp54_57, ↓gp54_58, ↓gp54_59, ↓gp54_60, ↓gp54_61, ↓gp54_62, ↓gp54_65, ↓gp54_66, ↓gp54_67, ↓gp54_68, ↓gp54_69, ↓gp54_70, ↓gp54_71, ↓gp54_73, ↓gp54_74, ↓gp54_75, ↓gp54_76, ↓gp54_84, ↓gp54_85, ↓gp54_87, ↓gp54_88, ↓xr59, kr59, ↓xr67, kr67, ↓xr75, kr75, ↓xr82, kr82, ↓xr89, kr89, ↓xr102, kr102, ↓xr115, kr115, ↓xr276, kr276, ↓xr437, kr437, ↓xr444, kr444, ↓xr453, kr453, ↓xr536, kr536, ↓xr553, kr553, hs0, hw0, hs1, hw1, hs2, hw2, hs3, hw3, hs4, hw4, hs5, hw5, hs6, hw6, hs7, hw7, hs8, hw8, hs9, hw9, hs10, hw10, hs11, hw11, hs12, hw12, hs13, hw13, hs14, hw14, hs15, hw15, hs16, hw16, hs17, hw17, hs18, hw18, hs19, hw19, hs20, hw20, hs21, hw21, hs22, hw22, hs23, hw23, hs25, hw25, hs26, hw26, hs27, hw27, hs28, hw28, hs9b, hw9b, hs10b, hw10b, kd0, kd20, kd21, kd22, kd23, kd24, kd25, kd26, kd27, kd28, kd29, kd30, kd31, kd32, kd33, kd34, kd35, kd36, kd37, kd38, kd39, kd40, kd41, kd42, kd54, kd55, kd56, kd57, kd58, kd59, kd67, kd75, kd82, kd89, kd102, kd115, kd276, kd437, kd444, kd451, kd452, kd453, kd534, kd535, kd536, kd553, kd557, kd558, kd559, kd560, kd561, ↓xgI_u, ↓xpI_u, ↓xaI_u, ↓xsI_u, ↓xrk_u, ↓xrk0_u, ↓xob_v, ↓xmb_v, ↓xth_v, ↓xth_x, ↓jn_u, ↓xlen_u, ↓xaL_u, ↓xsL_u, ↓xbl_0, ↓xbl_1, eq_self, inb_n, inb_d, Sh_PI, Sh_PL, dk_PI, dk_PL, dr_PI, dr_PL, ↓reduceIte, Int32.reduceLE, Int32.reduceLT, Int32.reduceToNatClampNeg, Nat.reduceLT, Nat.reduceLeDiff, Nat.reduceEqDiff, Nat.reduceAdd, Nat.reduceMul, h1.1.1, t_isJ hT0.1.1 hT0.1.2.1, t_inF hx (by omega), e', e10]
end CALL
