/-! SETS as bits; rows that are written -/
def rset (r : Nat → Int32) (k : Nat) (v : Int32) : Nat → Int32 := fun j => if j = k then v else r j
theorem rset_eq {r : Nat → Int32} {k : Nat} {v : Int32} : rset r k v k = v := if_pos rfl
theorem rset_ne {r : Nat → Int32} {k j : Nat} {v : Int32} (h : j ≠ k) : rset r k v j = r j := if_neg h
theorem di_eq {M : dwSt} {a k : Nat} {v : Int32} : dwI (dwPI M a k v) a k = v := by rw [di_PI, if_pos ⟨rfl, rfl⟩]
theorem di_ne {M : dwSt} {a k x j : Nat} {v : Int32} (h : x ≠ a ∨ j ≠ k) : dwI (dwPI M a k v) x j = dwI M x j := by rw [di_PI, if_neg (by omega)]
theorem di_row {M : dwSt} {a k : Nat} {v : Int32} : dwI (dwPI M a k v) a = rset (dwI M a) k v := by
  funext j; rw [di_PI]; unfold rset
  by_cases e : j = k
  · rw [if_pos ⟨rfl, e⟩, if_pos e]
  · rw [if_neg (fun q => e q.2), if_neg e]
theorem di_off {M : dwSt} {a k x : Nat} {v : Int32} (h : x ≠ a) : dwI (dwPI M a k v) x = dwI M x := by
  funext j; rw [di_PI, if_neg (fun q => h q.1)]
theorem min_less (x y : Int32) : (if x < y then x else y) = lessS x y := by
  unfold lessS
  by_cases e : x < y
  · rw [if_pos e, if_neg (Int32.not_le.mpr e)]
  · rw [if_neg e, if_pos (Int32.not_lt.mp e)]
theorem less_comm (x y : Int32) : lessS x y = lessS y x := by
  unfold lessS
  by_cases e : y ≤ x
  · rw [if_pos e]
    by_cases e2 : x ≤ y
    · rw [if_pos e2, Int32.le_antisymm e e2]
    · rw [if_neg e2]
  · have e2 := Int32.le_of_lt (Int32.not_le.mp e)
    rw [if_neg e, if_pos e2]
theorem max_more (x : Int32) : (if 0 < x then x else 0) = moreS 0 x := by
  unfold moreS
  by_cases e : 0 < x
  · rw [if_pos e, if_pos (Int32.le_of_lt e)]
  · rw [if_neg e]
    by_cases e2 : 0 ≤ x
    · rw [if_pos e2, Int32.le_antisymm e2 (Int32.not_lt.mp e)]
    · rw [if_neg e2]
def whoN (n : Nat) (r : Nat → Int32) (o : Nat) : Nat := itr (fun p x => x ||| (if r (o + p) ≤ 0 then 0 else 2 ^ p)) 0 n
theorem who_n {r : Nat → Int32} {o : Nat} : ∀ {n : Nat}, n ≤ 7 → whoS n r o = Int32.ofNat (whoN n r o) := by
  intro n
  induction n with
  | zero => intro _; rfl
  | succ n ih =>
    intro h
    show whoS n r o ||| _ = Int32.ofNat (whoN n r o ||| _)
    rw [ih (by omega), ← i_or]
    congr 1
    by_cases e : r (o + n) ≤ 0
    · rw [if_pos e, if_pos e]; rfl
    · rw [if_neg e, if_neg e, bI_n n (by omega)]
theorem whoN_b {r : Nat → Int32} {o k : Nat} : ∀ {n : Nat}, (whoN n r o).testBit k = decide (k < n ∧ ¬ r (o + k) ≤ 0) := by
  intro n
  induction n with
  | zero => show Nat.testBit 0 k = _; simp
  | succ n ih =>
    show (whoN n r o ||| _).testBit k = _
    rw [Nat.testBit_or, ih]
    by_cases e : r (o + n) ≤ 0
    · rw [if_pos e, Nat.zero_testBit, Bool.or_false]
      by_cases e2 : k = n
      · subst e2; simp [e]
      · simp only [show (k < n + 1) = (k < n) from propext (by omega)]
    · rw [if_neg e, Nat.testBit_two_pow]
      by_cases e2 : n = k
      · subst e2; simp [e]
      · simp only [e2, decide_false, Bool.or_false]; simp only [show (k < n + 1) = (k < n) from propext (by omega)]
theorem whoN_lt {r : Nat → Int32} {o : Nat} {n : Nat} (h : n ≤ 7) : whoN n r o < 128 := by
  have : ∀ m, m ≤ 7 → whoN m r o < 2 ^ 7 := by
    intro m
    induction m with
    | zero => intro _; show 0 < 2 ^ 7; decide
    | succ m ih =>
      intro hm
      show (whoN m r o ||| _) < 2 ^ 7
      refine Nat.or_lt_two_pow (ih (by omega)) ?_
      split
      · decide
      · exact Nat.pow_lt_pow_right (by omega) (by omega)
  exact this n h
theorem has_n : ∀ m, m < 128 → ∀ p, p < 7 → ((((Int32.ofNat m) >>> (Int32.ofNat p &&& 31)) &&& 1 = 1) ↔ m.testBit p = true) := by decide +kernel
theorem has_who {r : Nat → Int32} {n o p : Nat} (hn : n ≤ 7) (hp : p < n) : ((whoS n r o >>> (Int32.ofNat p &&& 31)) &&& 1 = 1) ↔ ¬ r (o + p) ≤ 0 := by
  rw [who_n hn, has_n _ (whoN_lt hn) p (by omega), whoN_b]
  simp [hp]
theorem who_set {r r' : Nat → Int32} {n o p : Nat} (hn : n ≤ 7) (hp : p < n) (h1 : ¬ r' (o + p) ≤ 0) (h2 : ∀ q, q < n → q ≠ p → r' (o + q) = r (o + q)) : whoS n r' o = whoS n r o ||| bI (Int32.ofNat p) := by
  rw [who_n hn, who_n hn, bI_n p (by omega), i_or]
  congr 1
  apply Nat.eq_of_testBit_eq
  intro k
  rw [Nat.testBit_or, whoN_b, whoN_b, Nat.testBit_two_pow]
  by_cases e : p = k
  · subst e; simp [h1, hp]
  · simp only [e, decide_false, Bool.or_false]
    rw [decide_eq_decide]
    by_cases hk : k < n
    · rw [h2 k hk (fun q => e q.symm)]
    · simp [hk]
theorem who_c {r r' : Nat → Int32} {n o o' : Nat} (h : ∀ q, q < n → r' (o' + q) = r (o + q)) : whoS n r' o' = whoS n r o := itr_c fun i x hi => by rw [h i hi]
theorem who_z {r : Nat → Int32} {o : Nat} : ∀ {n : Nat}, (∀ q, q < n → r (o + q) = 0) → whoS n r o = 0 := by
  intro n
  induction n with
  | zero => intro _; rfl
  | succ n ih =>
    intro h
    show whoS n r o ||| _ = 0
    rw [ih (fun q hq => h q (by omega)), h n (by omega), if_pos (Int32.le_refl 0)]
    rfl
theorem sum_c {r r' : Nat → Int32} {n o o' : Nat} (h : ∀ q, q < n → r' (o' + q) = r (o + q)) : sumS n r' o' = sumS n r o := itr_c fun i x hi => by rw [h i hi]
/-! a day, a telling -/
def drkS (T : dvT) (r : Nat → Int32) : Int32 := lessS (tdr T) (r 77)
def dayP (T : dvT) (p : Nat) (r : Nat → Int32) : Nat → Int32 :=
  rset (rset (rset (rset r 77 (r 77 - drkS T r)) (7 + p) (if drkS T r = tdr T then 0 else lessS 99 ((rset r 77 (r 77 - drkS T r)) (7 + p) + tdr T - drkS T r)))
    p (moreS 0 ((rset (rset r 77 (r 77 - drkS T r)) (7 + p) (if drkS T r = tdr T then 0 else lessS 99 ((rset r 77 (r 77 - drkS T r)) (7 + p) + tdr T - drkS T r))) p - 1))) (14 + p) 0
def dayS (T : dvT) (r : Nat → Int32) : Nat → Int32 := rset (itr (dayP T) r (tP T)) 78 (itr (dayP T) r (tP T) 78 + 1)
def telS (T : dvT) (lw : (Nat → Int32) → Int32) (j p : Nat) (r : Nat → Int32) : Nat → Int32 :=
  if r (14 + p) = 1 then r else rset (rset (rset (rset (rset r 77 (lessS 999 (r 77 + lghS T lw r j p * tpe T p 0))) (14 + p) 1) (21 + p) (r (21 + p) + 1)) (28 + p) (r (28 + p) + lghS T lw r j p)) (35 + 7 * j + p) (r (35 + 7 * j + p) + 1)
def telF (p : Nat) (r : Nat → Int32) : Int32 := if r (14 + p) = 1 then 0 else 1
def grvS (p : Nat) (n : Int32) (r : Nat → Int32) : Nat → Int32 := if r p < n then rset r p n else r
def grvF (p : Nat) (n : Int32) (r : Nat → Int32) : Int32 := if r p < n then 1 else 0
def sRow (a : Nat) : Nat → Nat → Prop := fun x _ => x = a
theorem sRow_t {b a : Nat} (h : rowA b a) : tFree b (sRow a) := fun x k q => by unfold sRow at q; unfold rowA at h; omega
section TWIN
variable {b a : Nat} {M : dwSt} {T : dvT} {lw : (Nat → Int32) → Int32}
theorem t_dayEnds (hs : Sh b M) (hT : tTold b M T) (ha : rowA b a) : ∃ M', m_X10_dayEnds M (b + 54) a = some ((), M') ∧ fr (sRow a) nz 0 0 M M' ∧ dwI M' a = dayS T (dwI M a) := by
  have hP := hT.2.2.2.2.2.2.2.2.1
  have hn := shN hs
  have hne : b + 58 ≠ a := by unfold rowA at ha; omega
  have hlt : a < dwN M := by unfold rowA at ha; omega
  simp -implicitDefEqProofs only [m_X10_dayEnds, jn_u]
  refine lpx (E := fun x => ∃ M', x = some ((), M') ∧ fr (sRow a) nz 0 0 M M' ∧ dwI M' a = dayS T (dwI M a)) (fun f i (M' : dwSt) => L_X10_dayEnds_2 (b + 54) a (fun (M1 : dwSt) => xaI M1 a 78 (fun v2 => xsI M1 a 78 (v2 + 1) (fun M3 => some ((), M3)))) f (Int32.ofNat i) M') (tP T) (fun i M' => fr (sRow a) nz 0 0 M M' ∧ dwI M' a = itr (dayP T) (dwI M a) i) ?_ ?_ 1000000 0 M (by omega) (by omega) ⟨fr.refl M, rfl⟩
  · intro f M' ⟨hf, hr⟩
    have hs' := hs.fr hf nz_p
    have hT' := hT.fr hs hf (sRow_t ha)
    have hka := rowA.k hs' ha
    refine ⟨dwPI M' a 78 (dwI M' a 78 + 1), ?_, hf.pI _ (Or.inl rfl), ?_⟩
    · simp -implicitDefEqProofs only [L_X10_dayEnds_2, ↓gp0_2, ↓gp0_3, ↓gp0_4, ↓gp0_5, ↓gp0_6, ↓gp0_7, ↓gp0_8, ↓gp0_9, ↓gp0_10, ↓gp0_18, ↓gp0_19, ↓gp0_20, ↓gp0_22, ↓gp23_43, ↓gp23_32, ↓gp23_33, ↓gp23_34, ↓gp23_35, ↓gp23_36, ↓gp29_43, ↓gp29_32, ↓gp29_33, ↓gp29_34, ↓gp29_35, ↓gp29_36, ↓gp54_53, ↓gp54_54, ↓gp54_55, ↓gp54_56, ↓gp54_57, ↓gp54_58, ↓gp54_59, ↓gp54_60, ↓gp54_61, ↓gp54_62, ↓gp54_65, ↓gp54_66, ↓gp54_67, ↓gp54_68, ↓gp54_69, ↓gp54_70, ↓gp54_71, ↓gp54_73, ↓gp54_74, ↓gp54_75, ↓gp54_76, ↓gp54_84, ↓gp54_85, ↓gp54_87, ↓gp54_88, ↓xr59, kr59, ↓xr67, kr67, ↓xr75, kr75, ↓xr82, kr82, ↓xr89, kr89, ↓xr102, kr102, ↓xr115, kr115, ↓xr276, kr276, ↓xr437, kr437, ↓xr444, kr444, ↓xr453, kr453, ↓xr536, kr536, ↓xr553, kr553, hs0, hw0, hs1, hw1, hs2, hw2, hs3, hw3, hs4, hw4, hs5, hw5, hs6, hw6, hs7, hw7, hs8, hw8, hs9, hw9, hs10, hw10, hs11, hw11, hs12, hw12, hs13, hw13, hs14, hw14, hs15, hw15, hs16, hw16, hs17, hw17, hs18, hw18, hs19, hw19, hs20, hw20, hs21, hw21, hs22, hw22, hs23, hw23, hs25, hw25, hs26, hw26, hs27, hw27, hs28, hw28, hs9b, hw9b, hs10b, hw10b, kd0, kd20, kd21, kd22, kd23, kd24, kd25, kd26, kd27, kd28, kd29, kd30, kd31, kd32, kd33, kd34, kd35, kd36, kd37, kd38, kd39, kd40, kd41, kd42, kd54, kd55, kd56, kd57, kd58, kd59, kd67, kd75, kd82, kd89, kd102, kd115, kd276, kd437, kd444, kd451, kd452, kd453, kd534, kd535, kd536, kd553, kd557, kd558, kd559, kd560, kd561, ↓xgI_u, ↓xpI_u, ↓xaI_u, ↓xsI_u, ↓xrk_u, ↓xrk0_u, ↓xob_v, ↓xmb_v, ↓xth_v, ↓xth_x, ↓jn_u, ↓xlen_u, ↓xaL_u, ↓xsL_u, ↓xbl_0, ↓xbl_1, eq_self, inb_n, inb_d, Sh_PI, Sh_PL, dk_PI, dk_PL, dr_PI, dr_PL, ↓reduceIte, Int32.reduceLE, Int32.reduceLT, Int32.reduceToNatClampNeg, Nat.reduceLT, Nat.reduceLeDiff, Nat.reduceEqDiff, Nat.reduceAdd, Nat.reduceMul, hs', hT'.1, i_geT, if_true, hka]
    · rw [di_row, hr]; rfl
  · intro f i M' hi ⟨hf, hr⟩ hnx
    have hs' := hs.fr hf nz_p
    have hT' := hT.fr hs hf (sRow_t ha)
    have hka := rowA.k hs' ha
    have h1 : i < 79 := by omega
    have h2 : 7 + i < 79 := by omega
    have h3 : 14 + i < 79 := by omega
    have hd : lessS (tdr T) (dwI M' a 77) = drkS T (dwI M' a) := rfl
    by_cases hc : drkS T (dwI M' a) = tdr T
    · have e := dayP.eq_1 T i (dwI M' a)
      simp only [hc, if_true] at e
      simp -implicitDefEqProofs only [L_X10_dayEnds_2, ↓gp0_2, ↓gp0_3, ↓gp0_4, ↓gp0_5, ↓gp0_6, ↓gp0_7, ↓gp0_8, ↓gp0_9, ↓gp0_10, ↓gp0_18, ↓gp0_19, ↓gp0_20, ↓gp0_22, ↓gp23_43, ↓gp23_32, ↓gp23_33, ↓gp23_34, ↓gp23_35, ↓gp23_36, ↓gp29_43, ↓gp29_32, ↓gp29_33, ↓gp29_34, ↓gp29_35, ↓gp29_36, ↓gp54_53, ↓gp54_54, ↓gp54_55, ↓gp54_56, ↓gp54_57, ↓gp54_58, ↓gp54_59, ↓gp54_60, ↓gp54_61, ↓gp54_62, ↓gp54_65, ↓gp54_66, ↓gp54_67, ↓gp54_68, ↓gp54_69, ↓gp54_70, ↓gp54_71, ↓gp54_73, ↓gp54_74, ↓gp54_75, ↓gp54_76, ↓gp54_84, ↓gp54_85, ↓gp54_87, ↓gp54_88, ↓xr59, kr59, ↓xr67, kr67, ↓xr75, kr75, ↓xr82, kr82, ↓xr89, kr89, ↓xr102, kr102, ↓xr115, kr115, ↓xr276, kr276, ↓xr437, kr437, ↓xr444, kr444, ↓xr453, kr453, ↓xr536, kr536, ↓xr553, kr553, hs0, hw0, hs1, hw1, hs2, hw2, hs3, hw3, hs4, hw4, hs5, hw5, hs6, hw6, hs7, hw7, hs8, hw8, hs9, hw9, hs10, hw10, hs11, hw11, hs12, hw12, hs13, hw13, hs14, hw14, hs15, hw15, hs16, hw16, hs17, hw17, hs18, hw18, hs19, hw19, hs20, hw20, hs21, hw21, hs22, hw22, hs23, hw23, hs25, hw25, hs26, hw26, hs27, hw27, hs28, hw28, hs9b, hw9b, hs10b, hw10b, kd0, kd20, kd21, kd22, kd23, kd24, kd25, kd26, kd27, kd28, kd29, kd30, kd31, kd32, kd33, kd34, kd35, kd36, kd37, kd38, kd39, kd40, kd41, kd42, kd54, kd55, kd56, kd57, kd58, kd59, kd67, kd75, kd82, kd89, kd102, kd115, kd276, kd437, kd444, kd451, kd452, kd453, kd534, kd535, kd536, kd553, kd557, kd558, kd559, kd560, kd561, ↓xgI_u, ↓xpI_u, ↓xaI_u, ↓xsI_u, ↓xrk_u, ↓xrk0_u, ↓xob_v, ↓xmb_v, ↓xth_v, ↓xth_x, ↓jn_u, ↓xlen_u, ↓xaL_u, ↓xsL_u, ↓xbl_0, ↓xbl_1, eq_self, inb_n, inb_d, Sh_PI, Sh_PL, dk_PI, dk_PL, dr_PI, dr_PL, ↓reduceIte, Int32.reduceLE, Int32.reduceLT, Int32.reduceToNatClampNeg, Nat.reduceLT, Nat.reduceLeDiff, Nat.reduceEqDiff, Nat.reduceAdd, Nat.reduceMul, hs', hT'.1, hT'.2.2.2.2.1, i_geF hi (by omega), if_false, hka, t_less, t_more, di_row, di_off hne, hd, hc, if_true, x_c7, x_c14, x_o0, h1, h2, h3, i_nat (show i < 2147483648 by omega), i_nat (show 7 + i < 2147483648 by omega), i_nat (show 14 + i < 2147483648 by omega), i_succ]
      refine hnx _ ⟨(((hf.pI _ (Or.inl rfl)).pI _ (Or.inl rfl)).pI _ (Or.inl rfl)).pI _ (Or.inl rfl), ?_⟩
      rw [← itr_s, ← hr, e]
      simp only [di_row]
    · have e := dayP.eq_1 T i (dwI M' a)
      simp only [hc, if_false] at e
      simp -implicitDefEqProofs only [L_X10_dayEnds_2, ↓gp0_2, ↓gp0_3, ↓gp0_4, ↓gp0_5, ↓gp0_6, ↓gp0_7, ↓gp0_8, ↓gp0_9, ↓gp0_10, ↓gp0_18, ↓gp0_19, ↓gp0_20, ↓gp0_22, ↓gp23_43, ↓gp23_32, ↓gp23_33, ↓gp23_34, ↓gp23_35, ↓gp23_36, ↓gp29_43, ↓gp29_32, ↓gp29_33, ↓gp29_34, ↓gp29_35, ↓gp29_36, ↓gp54_53, ↓gp54_54, ↓gp54_55, ↓gp54_56, ↓gp54_57, ↓gp54_58, ↓gp54_59, ↓gp54_60, ↓gp54_61, ↓gp54_62, ↓gp54_65, ↓gp54_66, ↓gp54_67, ↓gp54_68, ↓gp54_69, ↓gp54_70, ↓gp54_71, ↓gp54_73, ↓gp54_74, ↓gp54_75, ↓gp54_76, ↓gp54_84, ↓gp54_85, ↓gp54_87, ↓gp54_88, ↓xr59, kr59, ↓xr67, kr67, ↓xr75, kr75, ↓xr82, kr82, ↓xr89, kr89, ↓xr102, kr102, ↓xr115, kr115, ↓xr276, kr276, ↓xr437, kr437, ↓xr444, kr444, ↓xr453, kr453, ↓xr536, kr536, ↓xr553, kr553, hs0, hw0, hs1, hw1, hs2, hw2, hs3, hw3, hs4, hw4, hs5, hw5, hs6, hw6, hs7, hw7, hs8, hw8, hs9, hw9, hs10, hw10, hs11, hw11, hs12, hw12, hs13, hw13, hs14, hw14, hs15, hw15, hs16, hw16, hs17, hw17, hs18, hw18, hs19, hw19, hs20, hw20, hs21, hw21, hs22, hw22, hs23, hw23, hs25, hw25, hs26, hw26, hs27, hw27, hs28, hw28, hs9b, hw9b, hs10b, hw10b, kd0, kd20, kd21, kd22, kd23, kd24, kd25, kd26, kd27, kd28, kd29, kd30, kd31, kd32, kd33, kd34, kd35, kd36, kd37, kd38, kd39, kd40, kd41, kd42, kd54, kd55, kd56, kd57, kd58, kd59, kd67, kd75, kd82, kd89, kd102, kd115, kd276, kd437, kd444, kd451, kd452, kd453, kd534, kd535, kd536, kd553, kd557, kd558, kd559, kd560, kd561, ↓xgI_u, ↓xpI_u, ↓xaI_u, ↓xsI_u, ↓xrk_u, ↓xrk0_u, ↓xob_v, ↓xmb_v, ↓xth_v, ↓xth_x, ↓jn_u, ↓xlen_u, ↓xaL_u, ↓xsL_u, ↓xbl_0, ↓xbl_1, eq_self, inb_n, inb_d, Sh_PI, Sh_PL, dk_PI, dk_PL, dr_PI, dr_PL, ↓reduceIte, Int32.reduceLE, Int32.reduceLT, Int32.reduceToNatClampNeg, Nat.reduceLT, Nat.reduceLeDiff, Nat.reduceEqDiff, Nat.reduceAdd, Nat.reduceMul, hs', hT'.1, hT'.2.2.2.2.1, i_geF hi (by omega), if_false, hka, t_less, t_more, di_row, di_off hne, hd, hc, x_c7, x_c14, x_o0, h1, h2, h3, i_nat (show i < 2147483648 by omega), i_nat (show 7 + i < 2147483648 by omega), i_nat (show 14 + i < 2147483648 by omega), i_succ]
      refine hnx _ ⟨(((hf.pI _ (Or.inl rfl)).pI _ (Or.inl rfl)).pI _ (Or.inl rfl)).pI _ (Or.inl rfl), ?_⟩
      rw [← itr_s, ← hr, e]
      simp only [di_row]
def sRK (b a : Nat) : Nat → Nat → Prop := fun x _ => x = a ∨ x = b + 451 ∨ x = b + 452
theorem t_tells {j p : Nat} (h : tEnv b M T lw) (ha : rowA b a) (hj : j < tJ T) (hp : p < tP T) : ∃ M', m_X10_tells M (b + 54) a (Int32.ofNat j) (Int32.ofNat p) = some (telF p (dwI M a), M') ∧ fr (sRK b a) nz 0 0 M M' ∧ dwI M' a = telS T lw j p (dwI M a) := by
  have o1 := h.2.1.2.2.2.2.2.2.2.2.1
  have o2 := h.2.1.2.2.2.2.2.2.2.2.2.1
  have hn := shN h.1
  have hka := rowA.k h.1 ha
  have hp7 : p < 7 := by omega
  have h1 : 14 + p < 79 := by omega
  have h2 : 21 + p < 79 := by omega
  have h3 : 28 + p < 79 := by omega
  have h4 : 35 + 7 * j + p < 79 := by omega
  by_cases hc : dwI M a (14 + p) = 1
  · refine ⟨M, ?_, fr.refl M, ?_⟩
    · unfold telF
      simp -implicitDefEqProofs only [m_X10_tells, ↓gp0_2, ↓gp0_3, ↓gp0_4, ↓gp0_5, ↓gp0_6, ↓gp0_7, ↓gp0_8, ↓gp0_9, ↓gp0_10, ↓gp0_18, ↓gp0_19, ↓gp0_20, ↓gp0_22, ↓gp23_43, ↓gp23_32, ↓gp23_33, ↓gp23_34, ↓gp23_35, ↓gp23_36, ↓gp29_43, ↓gp29_32, ↓gp29_33, ↓gp29_34, ↓gp29_35, ↓gp29_36, ↓gp54_53, ↓gp54_54, ↓gp54_55, ↓gp54_56, ↓gp54_57, ↓gp54_58, ↓gp54_59, ↓gp54_60, ↓gp54_61, ↓gp54_62, ↓gp54_65, ↓gp54_66, ↓gp54_67, ↓gp54_68, ↓gp54_69, ↓gp54_70, ↓gp54_71, ↓gp54_73, ↓gp54_74, ↓gp54_75, ↓gp54_76, ↓gp54_84, ↓gp54_85, ↓gp54_87, ↓gp54_88, ↓xr59, kr59, ↓xr67, kr67, ↓xr75, kr75, ↓xr82, kr82, ↓xr89, kr89, ↓xr102, kr102, ↓xr115, kr115, ↓xr276, kr276, ↓xr437, kr437, ↓xr444, kr444, ↓xr453, kr453, ↓xr536, kr536, ↓xr553, kr553, hs0, hw0, hs1, hw1, hs2, hw2, hs3, hw3, hs4, hw4, hs5, hw5, hs6, hw6, hs7, hw7, hs8, hw8, hs9, hw9, hs10, hw10, hs11, hw11, hs12, hw12, hs13, hw13, hs14, hw14, hs15, hw15, hs16, hw16, hs17, hw17, hs18, hw18, hs19, hw19, hs20, hw20, hs21, hw21, hs22, hw22, hs23, hw23, hs25, hw25, hs26, hw26, hs27, hw27, hs28, hw28, hs9b, hw9b, hs10b, hw10b, kd0, kd20, kd21, kd22, kd23, kd24, kd25, kd26, kd27, kd28, kd29, kd30, kd31, kd32, kd33, kd34, kd35, kd36, kd37, kd38, kd39, kd40, kd41, kd42, kd54, kd55, kd56, kd57, kd58, kd59, kd67, kd75, kd82, kd89, kd102, kd115, kd276, kd437, kd444, kd451, kd452, kd453, kd534, kd535, kd536, kd553, kd557, kd558, kd559, kd560, kd561, ↓xgI_u, ↓xpI_u, ↓xaI_u, ↓xsI_u, ↓xrk_u, ↓xrk0_u, ↓xob_v, ↓xmb_v, ↓xth_v, ↓xth_x, ↓jn_u, ↓xlen_u, ↓xaL_u, ↓xsL_u, ↓xbl_0, ↓xbl_1, eq_self, inb_n, inb_d, Sh_PI, Sh_PL, dk_PI, dk_PL, dr_PI, dr_PL, ↓reduceIte, Int32.reduceLE, Int32.reduceLT, Int32.reduceToNatClampNeg, Nat.reduceLT, Nat.reduceLeDiff, Nat.reduceEqDiff, Nat.reduceAdd, Nat.reduceMul, hka, x_c14, h1, i_nat (show 14 + p < 2147483648 by omega), hc, if_true]
    · unfold telS; rw [if_pos hc]
  · obtain ⟨M1, r1, f1⟩ := t_laughOf h hka hj hp
    have h' := h.fr f1 sKn_t nz_p
    have hr : dwI M1 a = dwI M a := f1.if (by unfold rowA at ha; omega) (fun k q => by unfold sKn at q; unfold rowA at ha; omega)
    have hka' := rowA.k h'.1 ha
    have e3 := h'.2.1.2.2.2.2.2.1 p 0 hp (by omega)
    refine ⟨_, ?_, (((((f1.mono (S' := sRK b a) (fun x k q => Or.inr q) (fun _ _ q => q) (Nat.le_refl _) (Nat.le_refl _)).pI (a := a) (k := 77) (lessS 999 (dwI M1 a 77 + lghS T lw (dwI M a) j p * tpe T p 0)) (Or.inl (Or.inl rfl))).pI (a := a) (k := 14 + p) 1 (Or.inl (Or.inl rfl))).pI (a := a) (k := 21 + p) (dwI M1 a (21 + p) + 1) (Or.inl (Or.inl rfl))).pI (a := a) (k := 28 + p) (dwI M1 a (28 + p) + lghS T lw (dwI M a) j p) (Or.inl (Or.inl rfl))).pI (a := a) (k := 35 + 7 * j + p) (dwI M1 a (35 + 7 * j + p) + 1) (Or.inl (Or.inl rfl)), ?_⟩
    · unfold telF
      simp -implicitDefEqProofs only [m_X10_tells, ↓gp0_2, ↓gp0_3, ↓gp0_4, ↓gp0_5, ↓gp0_6, ↓gp0_7, ↓gp0_8, ↓gp0_9, ↓gp0_10, ↓gp0_18, ↓gp0_19, ↓gp0_20, ↓gp0_22, ↓gp23_43, ↓gp23_32, ↓gp23_33, ↓gp23_34, ↓gp23_35, ↓gp23_36, ↓gp29_43, ↓gp29_32, ↓gp29_33, ↓gp29_34, ↓gp29_35, ↓gp29_36, ↓gp54_53, ↓gp54_54, ↓gp54_55, ↓gp54_56, ↓gp54_57, ↓gp54_58, ↓gp54_59, ↓gp54_60, ↓gp54_61, ↓gp54_62, ↓gp54_65, ↓gp54_66, ↓gp54_67, ↓gp54_68, ↓gp54_69, ↓gp54_70, ↓gp54_71, ↓gp54_73, ↓gp54_74, ↓gp54_75, ↓gp54_76, ↓gp54_84, ↓gp54_85, ↓gp54_87, ↓gp54_88, ↓xr59, kr59, ↓xr67, kr67, ↓xr75, kr75, ↓xr82, kr82, ↓xr89, kr89, ↓xr102, kr102, ↓xr115, kr115, ↓xr276, kr276, ↓xr437, kr437, ↓xr444, kr444, ↓xr453, kr453, ↓xr536, kr536, ↓xr553, kr553, hs0, hw0, hs1, hw1, hs2, hw2, hs3, hw3, hs4, hw4, hs5, hw5, hs6, hw6, hs7, hw7, hs8, hw8, hs9, hw9, hs10, hw10, hs11, hw11, hs12, hw12, hs13, hw13, hs14, hw14, hs15, hw15, hs16, hw16, hs17, hw17, hs18, hw18, hs19, hw19, hs20, hw20, hs21, hw21, hs22, hw22, hs23, hw23, hs25, hw25, hs26, hw26, hs27, hw27, hs28, hw28, hs9b, hw9b, hs10b, hw10b, kd0, kd20, kd21, kd22, kd23, kd24, kd25, kd26, kd27, kd28, kd29, kd30, kd31, kd32, kd33, kd34, kd35, kd36, kd37, kd38, kd39, kd40, kd41, kd42, kd54, kd55, kd56, kd57, kd58, kd59, kd67, kd75, kd82, kd89, kd102, kd115, kd276, kd437, kd444, kd451, kd452, kd453, kd534, kd535, kd536, kd553, kd557, kd558, kd559, kd560, kd561, ↓xgI_u, ↓xpI_u, ↓xaI_u, ↓xsI_u, ↓xrk_u, ↓xrk0_u, ↓xob_v, ↓xmb_v, ↓xth_v, ↓xth_x, ↓jn_u, ↓xlen_u, ↓xaL_u, ↓xsL_u, ↓xbl_0, ↓xbl_1, eq_self, inb_n, inb_d, Sh_PI, Sh_PL, dk_PI, dk_PL, dr_PI, dr_PL, ↓reduceIte, Int32.reduceLE, Int32.reduceLT, Int32.reduceToNatClampNeg, Nat.reduceLT, Nat.reduceLeDiff, Nat.reduceEqDiff, Nat.reduceAdd, Nat.reduceMul, h.1, hka, x_c14, h1, i_nat (show 14 + p < 2147483648 by omega), hc, if_false, r1, hka', h'.1, hp7, e3, t_less, x_c21, h2, i_nat (show 21 + p < 2147483648 by omega), x_c28, h3, i_nat (show 28 + p < 2147483648 by omega), x_worn, h4, i_nat (show 35 + 7 * j + p < 2147483648 by omega)]
      simp (disch := omega) only [di_ne, di_eq]
    · unfold telS
      rw [if_neg hc]
      simp only [di_row, hr]
theorem t_grieves {p : Nat} {n : Int32} (hka : dwK M a = (1, 79)) (hp : p < 7) : ∃ M', m_X10_grieves M a (Int32.ofNat p) n = some (grvF p n (dwI M a), M') ∧ fr (sRow a) nz 0 0 M M' ∧ dwI M' a = grvS p n (dwI M a) := by
  have h1 : p < 79 := by omega
  unfold grvF grvS
  by_cases hc : dwI M a p < n
  · refine ⟨dwPI M a p n, ?_, (fr.refl M).pI _ (Or.inl rfl), ?_⟩
    · simp -implicitDefEqProofs only [m_X10_grieves, ↓xgI_u, ↓xpI_u, ↓xaI_u, ↓xsI_u, ↓xrk_u, ↓xrk0_u, ↓xob_v, ↓xmb_v, ↓xth_v, ↓xth_x, ↓jn_u, ↓xlen_u, ↓xaL_u, ↓xsL_u, ↓xbl_0, ↓xbl_1, eq_self, inb_n, inb_d, Sh_PI, Sh_PL, dk_PI, dk_PL, dr_PI, dr_PL, ↓reduceIte, Int32.reduceLE, Int32.reduceLT, Int32.reduceToNatClampNeg, Nat.reduceLT, Nat.reduceLeDiff, Nat.reduceEqDiff, Nat.reduceAdd, Nat.reduceMul, hka, x_o0, h1, i_nat (show p < 2147483648 by omega), hc, if_true]
    · rw [if_pos hc, di_row]
  · refine ⟨M, ?_, fr.refl M, ?_⟩
    · simp -implicitDefEqProofs only [m_X10_grieves, ↓xgI_u, ↓xpI_u, ↓xaI_u, ↓xsI_u, ↓xrk_u, ↓xrk0_u, ↓xob_v, ↓xmb_v, ↓xth_v, ↓xth_x, ↓jn_u, ↓xlen_u, ↓xaL_u, ↓xsL_u, ↓xbl_0, ↓xbl_1, eq_self, inb_n, inb_d, Sh_PI, Sh_PL, dk_PI, dk_PL, dr_PI, dr_PL, ↓reduceIte, Int32.reduceLE, Int32.reduceLT, Int32.reduceToNatClampNeg, Nat.reduceLT, Nat.reduceLeDiff, Nat.reduceEqDiff, Nat.reduceAdd, Nat.reduceMul, hka, x_o0, h1, i_nat (show p < 2147483648 by omega), hc, if_false]
    · rw [if_neg hc]
def cp79 (r z : Nat → Int32) : Nat → Int32 := fun k => if k < 79 then r k else z k
theorem t_copies {a c : Nat} (hka : dwK M a = (1, 79)) (hkc : dwK M c = (1, 79)) (hne : a ≠ c) (ha : a < dwN M) (hcN : c < dwN M) : ∃ M', m_X10_copies M a c = some ((), M') ∧ fr (sRow c) nz 0 0 M M' ∧ dwI M' c = cp79 (dwI M a) (dwI M c) := by
  simp -implicitDefEqProofs only [m_X10_copies, jn_u]
  refine lpx (E := fun x => ∃ M', x = some ((), M') ∧ fr (sRow c) nz 0 0 M M' ∧ dwI M' c = cp79 (dwI M a) (dwI M c)) (fun f i (M' : dwSt) => L_X10_copies_2 a c (fun (M1 : dwSt) => some ((), M1)) f (Int32.ofNat i) M') 79 (fun i M' => fr (sRow c) nz 0 0 M M' ∧ dwI M' c = fun k => if k < i then dwI M a k else dwI M c k) ?_ ?_ 1000000 0 M (by omega) (by omega) ⟨fr.refl M, by funext k; rw [if_neg (by omega)]⟩
  · intro f M' ⟨hf, hr⟩
    refine ⟨M', ?_, hf, hr⟩
    rw [L_X10_copies_2, if_pos (by decide)]
  · intro f i M' hi ⟨hf, hr⟩ hnx
    have h7 := i_geF hi (by omega)
    have hk1 : dwK M' a = (1, 79) := (hf.k ha).trans hka
    have hk2 : dwK M' c = (1, 79) := (hf.k hcN).trans hkc
    have hra : dwI M' a = dwI M a := hf.if ha (fun k q => hne q)
    show ∃ M'', L_X10_copies_2 a c (fun (M1 : dwSt) => some ((), M1)) (f + 1) (Int32.ofNat i) M' = some ((), M'') ∧ _
    rw [L_X10_copies_2, if_neg (show ¬ (79 : Int32) ≤ Int32.ofNat i from fun q => (h7 ▸ q : False))]
    simp only [↓xgI_u, ↓xpI_u, ↓xaI_u, ↓xsI_u, ↓xrk_u, ↓xrk0_u, ↓xob_v, ↓xmb_v, ↓xth_v, ↓xth_x, ↓jn_u, ↓xlen_u, ↓xaL_u, ↓xsL_u, ↓xbl_0, ↓xbl_1, eq_self, inb_n, inb_d, Sh_PI, Sh_PL, dk_PI, dk_PL, dr_PI, dr_PL, ↓reduceIte, Int32.reduceLE, Int32.reduceLT, Int32.reduceToNatClampNeg, Nat.reduceLT, Nat.reduceLeDiff, Nat.reduceEqDiff, Nat.reduceAdd, Nat.reduceMul, hk1, hk2, hi, i_nat (show i < 2147483648 by omega), i_succ, hra]
    refine hnx _ ⟨hf.pI _ (Or.inl rfl), ?_⟩
    rw [di_row, hr]
    funext k
    unfold rset
    by_cases e : k = i
    · rw [if_pos e, if_pos (by omega), e]
    · rw [if_neg e]
      show (if k < i then dwI M a k else dwI M c k) = _
      by_cases e2 : k < i
      · rw [if_pos e2, if_pos (by omega)]
      · rw [if_neg e2, if_neg (by omega)]
end TWIN
