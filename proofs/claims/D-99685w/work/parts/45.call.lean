section CALL
variable {b : Nat} {w : Nat → Nat} {M : dwSt} {A : dvA}
theorem agree_mkz {A' : dvA} {f : dwSt → dwR9 Int32} {g : dwSt → Option (Int32 × dwSt)} {k v : Int32} (hT : TInv b M A)
    (h1 : ∃ M1 w', f M = some (.inl k, M1) ∧ CInv b w' M1 A' ∧ fr (cWo b) (zWo b) 9000 113000 M M1 ∧ (k = 0 → dwL M1 (b + 561) 0 = v.toInt64))
    (h2 : ∀ M1, TInv b M1 A → fr (cWo b) (zWo b) 9000 113000 M M1 → ∃ M2 v2, g M1 = some (v2, M2) ∧ TInv b M2 A' ∧ fr (tW b) nz 0 0 M1 M2 ∧ dwI M2 (b + 54) 44 = k ∧ (k = 0 → v2 = v)) : agree b M f g := by
  obtain ⟨M1, w', e1, c1, f1, o1⟩ := h1
  obtain ⟨M2, v2, e2, t2, f2, k2, o2⟩ := h2 M1 (tinv_c hT f1) f1
  have hn := shN c1.1.1
  refine ⟨k, M1, e1, v2, M2, e2, k2, fun q => ?_, ⟨w', A', cinv_t c1 f2, t2⟩, ?_⟩
  · rw [f2.l (by omega) (fun z => by unfold tW at z; omega), o1 q, o2 q]
  · exact (f1.mono (fun a k q => q.1) (fun a k q => q.1.1) (Nat.le_refl _) (Nat.le_refl _)).t0 (f2.mono (fun a k q => by unfold tW at q; show b ≤ a; omega) (fun a k q => False.elim q) (Nat.le_refl _) (Nat.le_refl _))
theorem trial_same {M1 : dwSt} {n u : Nat} (hs : Sh b M) (f : fr (cWo b) (zWo b) n u M M1) : dwI M1 (b + 535) = dwI M (b + 535) := f.if (by have := shN hs; omega) (fun k q => by unfold cWo at q; omega)
def yeaV (T : dvT) (r r0 : Nat → Int32) (y : Int32) : Int32 := if y = 0 then r 77 else if y = 1 then sumS (tP T) r 28 - sumS (tP T) r0 28 else if y = 2 then sumS (tP T) r 7 else whoS (tP T) r 0
theorem inV_1n {x : Int32} {n : Nat} (hn : n < 2147483647) (h : inV x 1 (Int32.ofNat n) = 1) : ∃ k, k < n + 1 ∧ x = Int32.ofNat k := by
  refine inV_n hn ?_
  unfold inV at h ⊢
  by_cases h1 : x < 1
  · rw [if_pos h1] at h; exact absurd h (by decide)
  · rw [if_neg h1] at h
    rw [if_neg (fun q => h1 ?_)]
    · exact h
    · rw [Int32.lt_iff_toInt_lt] at q ⊢
      rw [show (0 : Int32).toInt = 0 from rfl] at q
      rw [show (1 : Int32).toInt = 1 from rfl]
      omega
theorem C_year {x0 x1 x2 x3 : Int32} (z : Nat → Int32) (hC : CInv b w M A) (g0 : inV x1 1 96 = 1) (g1 : inV x2 0 16 = 1) (g2 : inV x3 0 3 = 1) : ∃ M1, m_X1_year M b x0 x1 x2 x3 = some (.inl (yeaV (aT A) (yrS (aT A) (aLw A) x2 x0 (cp79 (aNow A) z) x1.toNatClampNeg).1 (aNow A) x3), M1) ∧ fr (cSc b) nz 0 0 M M1 := by
  obtain ⟨n, hn, rfl⟩ := inV_1n (n := 96) (by omega) g0
  rw [i_nat (by omega)]
  obtain ⟨M1, e, f, hr⟩ := c_yearBy (seed := x0) (q := x2) (n := n) z hC (by omega)
  have c1 := cinv_s hC f
  have hs1 := c1.1.1
  have need : m_X1_need M b 1 = some (.inl (), M) := c_need1 rfl
  have w0 := c_some (r := (yrS (aT A) (aLw A) x2 x0 (cp79 (aNow A) z) n).1) (o := 0) hs1 c1.1.2.1 hr.1 (kd30 hs1) (fun p hp => by rw [Nat.zero_add]; exact hr.2.1 p hp)
  have s7 := c_sum (o := 7) hs1 c1.1.2.1 hr.1 (kd31 hs1) hr.2.2.1
  have s28 := c_sum (o := 28) hs1 c1.1.2.1 hr.1 (kd33 hs1) hr.2.2.2.2.1
  have t28 := c_sum (r := aNow A) (o := 28) hs1 c1.1.2.1 c1.1.2.2.2.2.1.1 (kd27 hs1) c1.1.2.2.2.2.1.2.2.2.2.1
  refine ⟨M1, ?_, f⟩
  obtain ⟨k, hk, rfl⟩ := inV_n (n := 3) (by omega) g2
  rcases (by omega : k = 0 ∨ k = 1 ∨ k = 2 ∨ k = 3) with rfl | rfl | rfl | rfl
  all_goals simp -implicitDefEqProofs (decide := true) only [m_X1_year, m_X1_isYear, yeaV, ↓gp0_2, ↓gp0_3, ↓gp0_4, ↓gp0_5, ↓gp0_6, ↓gp0_7, ↓gp0_8, ↓gp0_9, ↓gp0_10, ↓gp0_18, ↓gp0_19, ↓gp0_20, ↓gp0_22, ↓gp23_43, ↓gp23_32, ↓gp23_33, ↓gp23_34, ↓gp23_35, ↓gp23_36, ↓gp29_43, ↓gp29_32, ↓gp29_33, ↓gp29_34, ↓gp29_35, ↓gp29_36, ↓gp54_53, ↓gp54_54, ↓gp54_55, ↓gp54_56, ↓gp54_57, ↓gp54_58, ↓gp54_59, ↓gp54_60, ↓gp54_61, ↓gp54_62, ↓gp54_65, ↓gp54_66, ↓gp54_67, ↓gp54_68, ↓gp54_69, ↓gp54_70, ↓gp54_71, ↓gp54_73, ↓gp54_74, ↓gp54_75, ↓gp54_76, ↓gp54_84, ↓gp54_85, ↓gp54_87, ↓gp54_88, ↓xr59, kr59, ↓xr67, kr67, ↓xr75, kr75, ↓xr82, kr82, ↓xr89, kr89, ↓xr102, kr102, ↓xr115, kr115, ↓xr276, kr276, ↓xr437, kr437, ↓xr444, kr444, ↓xr453, kr453, ↓xr536, kr536, ↓xr553, kr553, hs0, hw0, hs1, hw1, hs2, hw2, hs3, hw3, hs4, hw4, hs5, hw5, hs6, hw6, hs7, hw7, hs8, hw8, hs9, hw9, hs10, hw10, hs11, hw11, hs12, hw12, hs13, hw13, hs14, hw14, hs15, hw15, hs16, hw16, hs17, hw17, hs18, hw18, hs19, hw19, hs20, hw20, hs21, hw21, hs22, hw22, hs23, hw23, hs25, hw25, hs26, hw26, hs27, hw27, hs28, hw28, hs9b, hw9b, hs10b, hw10b, kd0, kd20, kd21, kd22, kd23, kd24, kd25, kd26, kd27, kd28, kd29, kd30, kd31, kd32, kd33, kd34, kd35, kd36, kd37, kd38, kd39, kd40, kd41, kd42, kd54, kd55, kd56, kd57, kd58, kd59, kd67, kd75, kd82, kd89, kd102, kd115, kd276, kd437, kd444, kd451, kd452, kd453, kd534, kd535, kd536, kd553, kd557, kd558, kd559, kd560, kd561, ↓xgI_u, ↓xpI_u, ↓xaI_u, ↓xsI_u, ↓xrk_u, ↓xrk0_u, ↓xob_v, ↓xmb_v, ↓xth_v, ↓xth_x, ↓jn_u, ↓xlen_u, ↓xaL_u, ↓xsL_u, ↓xbl_0, ↓xbl_1, eq_self, inb_n, inb_d, Sh_PI, Sh_PL, dk_PI, dk_PL, dr_PI, dr_PL, ↓reduceIte, Int32.reduceLE, Int32.reduceLT, Int32.reduceToNatClampNeg, Nat.reduceLT, Nat.reduceLeDiff, Nat.reduceEqDiff, Nat.reduceAdd, Nat.reduceMul, hC.1.1, hs1, c_isIn, g0, g1, g2, e10, need, e, w0, s7, s28, t28, hr.2.2.2.2.2.2.2.1, if_true, if_false]
theorem T_year {x0 x1 x2 x3 : Int32} {z : Nat → Int32} (hT : TInv b M A) (hz : dwI M (b + 535) = z) (g0 : inV x1 1 96 = 1) (g1 : inV x2 0 16 = 1) (g2 : inV x3 0 3 = 1) : ∃ M2, m_X10_year M (b + 54) x0 x1 x2 x3 = some (yeaV (aT A) (yrS (aT A) (aLw A) x2 x0 (cp79 (aNow A) z) x1.toNatClampNeg).1 (aNow A) x3, M2) ∧ fr (tSc b) nz 0 0 (dwPI M (b + 54) 44 0) M2 := by
  obtain ⟨n, hn, rfl⟩ := inV_1n (n := 96) (by omega) g0
  rw [i_nat (by omega)]
  obtain ⟨hT0, fz, z0⟩ := tinv_z hT
  have hs0 := hT0.1.1
  obtain ⟨M1, e, f, hr⟩ := t_yearBy (seed := x0) (q := x2) (n := n) hT0 (by omega)
  rw [di_off (by omega), hz] at hr
  have c1 := tinv_s hT0 f
  have hs1 := c1.1.1
  have w0 : m_X10_whoHas M1 (b + 54) (b + 535) 0 = _ := t_whoHas (o := 0) hs1 c1.1.2.1 (kd535 hs1) (by omega)
  have s7 : m_X10_sumOf M1 (b + 54) (b + 535) 7 = _ := t_sumOf (o := 7) hs1 c1.1.2.1 (kd535 hs1) (by omega)
  have s28 : m_X10_sumOf M1 (b + 54) (b + 535) 28 = _ := t_sumOf (o := 28) hs1 c1.1.2.1 (kd535 hs1) (by omega)
  have t28 : m_X10_sumOf M1 (b + 54) (b + 534) 28 = _ := t_sumOf (o := 28) hs1 c1.1.2.1 (kd534 hs1) (by omega)
  rw [hr] at w0 s7 s28
  rw [c1.1.2.2.2.2.1] at t28
  refine ⟨M1, ?_, f⟩
  obtain ⟨k, hk, rfl⟩ := inV_n (n := 3) (by omega) g2
  rcases (by omega : k = 0 ∨ k = 1 ∨ k = 2 ∨ k = 3) with rfl | rfl | rfl | rfl
  all_goals simp -implicitDefEqProofs (decide := true) only [m_X10_year, m_X10_isYear, yeaV, ↓gp0_2, ↓gp0_3, ↓gp0_4, ↓gp0_5, ↓gp0_6, ↓gp0_7, ↓gp0_8, ↓gp0_9, ↓gp0_10, ↓gp0_18, ↓gp0_19, ↓gp0_20, ↓gp0_22, ↓gp23_43, ↓gp23_32, ↓gp23_33, ↓gp23_34, ↓gp23_35, ↓gp23_36, ↓gp29_43, ↓gp29_32, ↓gp29_33, ↓gp29_34, ↓gp29_35, ↓gp29_36, ↓gp54_53, ↓gp54_54, ↓gp54_55, ↓gp54_56, ↓gp54_57, ↓gp54_58, ↓gp54_59, ↓gp54_60, ↓gp54_61, ↓gp54_62, ↓gp54_65, ↓gp54_66, ↓gp54_67, ↓gp54_68, ↓gp54_69, ↓gp54_70, ↓gp54_71, ↓gp54_73, ↓gp54_74, ↓gp54_75, ↓gp54_76, ↓gp54_84, ↓gp54_85, ↓gp54_87, ↓gp54_88, ↓xr59, kr59, ↓xr67, kr67, ↓xr75, kr75, ↓xr82, kr82, ↓xr89, kr89, ↓xr102, kr102, ↓xr115, kr115, ↓xr276, kr276, ↓xr437, kr437, ↓xr444, kr444, ↓xr453, kr453, ↓xr536, kr536, ↓xr553, kr553, hs0, hw0, hs1, hw1, hs2, hw2, hs3, hw3, hs4, hw4, hs5, hw5, hs6, hw6, hs7, hw7, hs8, hw8, hs9, hw9, hs10, hw10, hs11, hw11, hs12, hw12, hs13, hw13, hs14, hw14, hs15, hw15, hs16, hw16, hs17, hw17, hs18, hw18, hs19, hw19, hs20, hw20, hs21, hw21, hs22, hw22, hs23, hw23, hs25, hw25, hs26, hw26, hs27, hw27, hs28, hw28, hs9b, hw9b, hs10b, hw10b, kd0, kd20, kd21, kd22, kd23, kd24, kd25, kd26, kd27, kd28, kd29, kd30, kd31, kd32, kd33, kd34, kd35, kd36, kd37, kd38, kd39, kd40, kd41, kd42, kd54, kd55, kd56, kd57, kd58, kd59, kd67, kd75, kd82, kd89, kd102, kd115, kd276, kd437, kd444, kd451, kd452, kd453, kd534, kd535, kd536, kd553, kd557, kd558, kd559, kd560, kd561, ↓xgI_u, ↓xpI_u, ↓xaI_u, ↓xsI_u, ↓xrk_u, ↓xrk0_u, ↓xob_v, ↓xmb_v, ↓xth_v, ↓xth_x, ↓jn_u, ↓xlen_u, ↓xaL_u, ↓xsL_u, ↓xbl_0, ↓xbl_1, eq_self, inb_n, inb_d, Sh_PI, Sh_PL, dk_PI, dk_PL, dr_PI, dr_PL, ↓reduceIte, Int32.reduceLE, Int32.reduceLT, Int32.reduceToNatClampNeg, Nat.reduceLT, Nat.reduceLeDiff, Nat.reduceEqDiff, Nat.reduceAdd, Nat.reduceMul, hT.1.1, hs1, t_in, g0, g1, g2, e10, t_bad0 hs0 z0, e, w0, s7, s28, t28, hr, if_true, if_false]
/-! span -/
/-- the fewest, the most, how often; the last row of the years before is z -/
def spnP (T : dvT) (r : Nat → Int32) (p : Nat) (s : Int32 × Int32 × Int32) : Int32 × Int32 × Int32 := (if s.1 = -1 then r 77 else lessS s.1 (r 77), moreS s.2.1 (r 77), s.2.2 + (if r (7 + p) ≤ 0 then 0 else 1))
/-- the rows of years, one after another: each begins by the row that stands, over what the last left -/
def spnR (A : dvA) (q seed : Int32) (d : Nat) (z : Nat → Int32) : Nat → (Nat → Int32)
  | 0 => z
  | n + 1 => (yrS (aT A) (aLw A) q (seed + Int32.ofNat n) (cp79 (aNow A) (spnR A q seed d z n)) d).1
def spnA (A : dvA) (q seed : Int32) (d p : Nat) (z : Nat → Int32) (n : Nat) : Int32 × Int32 × Int32 := itr (fun k s => spnP (aT A) (spnR A q seed d z (k + 1)) p s) (-1, 0, 0) n
def spnV (A : dvA) (x0 x1 x2 x3 x4 x5 : Int32) (z : Nat → Int32) : Int32 := if x4 = 0 then (spnA A x3 x0 x2.toNatClampNeg x5.toNatClampNeg z x1.toNatClampNeg).1 else if x4 = 1 then (spnA A x3 x0 x2.toNatClampNeg x5.toNatClampNeg z x1.toNatClampNeg).2.1 else (spnA A x3 x0 x2.toNatClampNeg x5.toNatClampNeg z x1.toNatClampNeg).2.2
theorem last_n {n : Nat} {x : Int32} (hn : n < 2147483648) (h : inV x 0 (Int32.ofNat n - 1) = 1) : ∃ p, p < n ∧ x = Int32.ofNat p := by
  rcases in_or x n with q | q
  · exact q
  · rw [t_inF q hn] at h; exact absurd h (by decide)
theorem C_span {x0 x1 x2 x3 x4 x5 : Int32} (z : Nat → Int32) (hC : CInv b w M A) (g0 : inV x1 1 20 = 1) (g1 : inV x2 1 96 = 1) (g2 : inV x3 0 16 = 1) (g3 : inV x4 0 2 = 1) (g4 : inV x5 0 (Int32.ofNat (tP (aT A)) - 1) = 1) : ∃ M1, m_X1_span M b x0 x1 x2 x3 x4 x5 = some (.inl (spnV A x0 x1 x2 x3 x4 x5 z), M1) ∧ fr (cSc b) nz 0 0 M M1 := by
  have o1 := hC.1.ok.1.1
  obtain ⟨m, hm, rfl⟩ := inV_1n (n := 20) (by omega) g0
  obtain ⟨d, hd, rfl⟩ := inV_1n (n := 96) (by omega) g1
  obtain ⟨p, hp, rfl⟩ := last_n (by omega) g4
  have hp7 : p < 7 := by omega
  have need : m_X1_need M b 1 = some (.inl (), M) := c_need1 rfl
  unfold spnV
  rw [i_nat (show m < 2147483648 by omega), i_nat (show d < 2147483648 by omega), i_nat (show p < 2147483648 by omega)]
  simp -implicitDefEqProofs only [m_X1_span, m_X1_isYear, ↓xgI_u, ↓xpI_u, ↓xaI_u, ↓xsI_u, ↓xrk_u, ↓xrk0_u, ↓xob_v, ↓xmb_v, ↓xth_v, ↓xth_x, ↓jn_u, ↓xlen_u, ↓xaL_u, ↓xsL_u, ↓xbl_0, ↓xbl_1, eq_self, inb_n, inb_d, Sh_PI, Sh_PL, dk_PI, dk_PL, dr_PI, dr_PL, ↓reduceIte, Int32.reduceLE, Int32.reduceLT, Int32.reduceToNatClampNeg, Nat.reduceLT, Nat.reduceLeDiff, Nat.reduceEqDiff, Nat.reduceAdd, Nat.reduceMul, kd0 hC.1.1, c_isIn, g0, g1, g2, g3, c_persons hC.1.1 hC.1.2.1, g4, e10, need]
  generalize hK : (fun (y6 : Int32) (y7 : Int32) (y8 : Int32) (M9 : dwSt) => (if x4 = 0 then some (.inl y6, M9) else if x4 = 1 then some (.inl y7, M9) else some (.inl y8, M9) : dwR9 Int32)) = K
  refine lpx (E := fun x => ∃ M1, x = some (.inl (if x4 = 0 then (spnA A x3 x0 d p z m).1 else if x4 = 1 then (spnA A x3 x0 d p z m).2.1 else (spnA A x3 x0 d p z m).2.2), M1) ∧ fr (cSc b) nz 0 0 M M1) (fun f i (s : (Int32 × Int32 × Int32) × dwSt) => L_X1_span_65 b x0 (Int32.ofNat m) (Int32.ofNat d) x3 x4 (Int32.ofNat p) K f s.1.1 s.1.2.1 s.1.2.2 (Int32.ofNat i) s.2) m (fun i s => s.1 = spnA A x3 x0 d p z i ∧ fr (cSc b) nz 0 0 M s.2) ?_ ?_ 1000000 0 ((-1, 0, 0), M) (by omega) (by omega) ⟨rfl, fr.refl M⟩
  · intro f ⟨s, M1⟩ ⟨e, hf⟩
    refine ⟨M1, ?_, hf⟩
    have e' : s = _ := e
    show L_X1_span_65 b x0 (Int32.ofNat m) (Int32.ofNat d) x3 x4 (Int32.ofNat p) K (f + 1) s.1 s.2.1 s.2.2 (Int32.ofNat m) M1 = _
    simp -implicitDefEqProofs only [L_X1_span_65, i_geT, if_true]
    rw [e', ← hK]
    by_cases h0 : x4 = 0
    · simp only [h0, if_true]
    · by_cases h1 : x4 = 1
      · simp only [h1, if_true, e10, if_false]
      · simp only [h0, h1, if_false]
  · intro f i ⟨s, M1⟩ hi ⟨e, hf⟩ hnx
    have c1 := cinv_s hC hf
    have e' : s = _ := e
    obtain ⟨M2, u, f2, hr⟩ := c_yearBy (seed := x0 + Int32.ofNat i) (q := x3) (n := d) (spnR A x3 x0 d z i) c1 (by omega)
    have hf2 := hf.t0 f2
    have c2 := cinv_s hC hf2
    have es : spnA A x3 x0 d p z (i + 1) = spnP (aT A) (spnR A x3 x0 d z (i + 1)) p s := by rw [e']; rfl
    have hR : (yrS (aT A) (aLw A) x3 (x0 + Int32.ofNat i) (cp79 (aNow A) (spnR A x3 x0 d z i)) d).1 = spnR A x3 x0 d z (i + 1) := rfl
    rw [hR] at hr
    have a1 := hr.2.2.1 p hp7
    have a2 := hr.2.2.2.2.2.2.2.1
    show ∃ M3, L_X1_span_65 b x0 (Int32.ofNat m) (Int32.ofNat d) x3 x4 (Int32.ofNat p) K (f + 1) s.1 s.2.1 s.2.2 (Int32.ofNat i) M1 = _ ∧ _
    unfold spnP at es
    by_cases h1 : s.1 = -1
    · rw [if_pos h1] at es
      by_cases h2 : spnR A x3 x0 d z (i + 1) (7 + p) ≤ 0
      · rw [if_pos h2] at es
        simp -implicitDefEqProofs only [L_X1_span_65, i_geF hi (by omega), if_false, ↓gp0_2, ↓gp0_3, ↓gp0_4, ↓gp0_5, ↓gp0_6, ↓gp0_7, ↓gp0_8, ↓gp0_9, ↓gp0_10, ↓gp0_18, ↓gp0_19, ↓gp0_20, ↓gp0_22, ↓gp23_43, ↓gp23_32, ↓gp23_33, ↓gp23_34, ↓gp23_35, ↓gp23_36, ↓gp29_43, ↓gp29_32, ↓gp29_33, ↓gp29_34, ↓gp29_35, ↓gp29_36, ↓gp54_53, ↓gp54_54, ↓gp54_55, ↓gp54_56, ↓gp54_57, ↓gp54_58, ↓gp54_59, ↓gp54_60, ↓gp54_61, ↓gp54_62, ↓gp54_65, ↓gp54_66, ↓gp54_67, ↓gp54_68, ↓gp54_69, ↓gp54_70, ↓gp54_71, ↓gp54_73, ↓gp54_74, ↓gp54_75, ↓gp54_76, ↓gp54_84, ↓gp54_85, ↓gp54_87, ↓gp54_88, ↓xr59, kr59, ↓xr67, kr67, ↓xr75, kr75, ↓xr82, kr82, ↓xr89, kr89, ↓xr102, kr102, ↓xr115, kr115, ↓xr276, kr276, ↓xr437, kr437, ↓xr444, kr444, ↓xr453, kr453, ↓xr536, kr536, ↓xr553, kr553, hs0, hw0, hs1, hw1, hs2, hw2, hs3, hw3, hs4, hw4, hs5, hw5, hs6, hw6, hs7, hw7, hs8, hw8, hs9, hw9, hs10, hw10, hs11, hw11, hs12, hw12, hs13, hw13, hs14, hw14, hs15, hw15, hs16, hw16, hs17, hw17, hs18, hw18, hs19, hw19, hs20, hw20, hs21, hw21, hs22, hw22, hs23, hw23, hs25, hw25, hs26, hw26, hs27, hw27, hs28, hw28, hs9b, hw9b, hs10b, hw10b, kd0, kd20, kd21, kd22, kd23, kd24, kd25, kd26, kd27, kd28, kd29, kd30, kd31, kd32, kd33, kd34, kd35, kd36, kd37, kd38, kd39, kd40, kd41, kd42, kd54, kd55, kd56, kd57, kd58, kd59, kd67, kd75, kd82, kd89, kd102, kd115, kd276, kd437, kd444, kd451, kd452, kd453, kd534, kd535, kd536, kd553, kd557, kd558, kd559, kd560, kd561, ↓xgI_u, ↓xpI_u, ↓xaI_u, ↓xsI_u, ↓xrk_u, ↓xrk0_u, ↓xob_v, ↓xmb_v, ↓xth_v, ↓xth_x, ↓jn_u, ↓xlen_u, ↓xaL_u, ↓xsL_u, ↓xbl_0, ↓xbl_1, eq_self, inb_n, inb_d, Sh_PI, Sh_PL, dk_PI, dk_PL, dr_PI, dr_PL, ↓reduceIte, Int32.reduceLE, Int32.reduceLT, Int32.reduceToNatClampNeg, Nat.reduceLT, Nat.reduceLeDiff, Nat.reduceEqDiff, Nat.reduceAdd, Nat.reduceMul, c1.1.1, c2.1.1, u, h1, if_true, a1, a2, hp7, i_nat (show p < 2147483648 by omega), h2, max_more2, i_succ]
        exact hnx ((_, _, _), M2) ⟨es.symm, hf2⟩
      · rw [if_neg h2] at es
        simp -implicitDefEqProofs only [L_X1_span_65, i_geF hi (by omega), if_false, ↓gp0_2, ↓gp0_3, ↓gp0_4, ↓gp0_5, ↓gp0_6, ↓gp0_7, ↓gp0_8, ↓gp0_9, ↓gp0_10, ↓gp0_18, ↓gp0_19, ↓gp0_20, ↓gp0_22, ↓gp23_43, ↓gp23_32, ↓gp23_33, ↓gp23_34, ↓gp23_35, ↓gp23_36, ↓gp29_43, ↓gp29_32, ↓gp29_33, ↓gp29_34, ↓gp29_35, ↓gp29_36, ↓gp54_53, ↓gp54_54, ↓gp54_55, ↓gp54_56, ↓gp54_57, ↓gp54_58, ↓gp54_59, ↓gp54_60, ↓gp54_61, ↓gp54_62, ↓gp54_65, ↓gp54_66, ↓gp54_67, ↓gp54_68, ↓gp54_69, ↓gp54_70, ↓gp54_71, ↓gp54_73, ↓gp54_74, ↓gp54_75, ↓gp54_76, ↓gp54_84, ↓gp54_85, ↓gp54_87, ↓gp54_88, ↓xr59, kr59, ↓xr67, kr67, ↓xr75, kr75, ↓xr82, kr82, ↓xr89, kr89, ↓xr102, kr102, ↓xr115, kr115, ↓xr276, kr276, ↓xr437, kr437, ↓xr444, kr444, ↓xr453, kr453, ↓xr536, kr536, ↓xr553, kr553, hs0, hw0, hs1, hw1, hs2, hw2, hs3, hw3, hs4, hw4, hs5, hw5, hs6, hw6, hs7, hw7, hs8, hw8, hs9, hw9, hs10, hw10, hs11, hw11, hs12, hw12, hs13, hw13, hs14, hw14, hs15, hw15, hs16, hw16, hs17, hw17, hs18, hw18, hs19, hw19, hs20, hw20, hs21, hw21, hs22, hw22, hs23, hw23, hs25, hw25, hs26, hw26, hs27, hw27, hs28, hw28, hs9b, hw9b, hs10b, hw10b, kd0, kd20, kd21, kd22, kd23, kd24, kd25, kd26, kd27, kd28, kd29, kd30, kd31, kd32, kd33, kd34, kd35, kd36, kd37, kd38, kd39, kd40, kd41, kd42, kd54, kd55, kd56, kd57, kd58, kd59, kd67, kd75, kd82, kd89, kd102, kd115, kd276, kd437, kd444, kd451, kd452, kd453, kd534, kd535, kd536, kd553, kd557, kd558, kd559, kd560, kd561, ↓xgI_u, ↓xpI_u, ↓xaI_u, ↓xsI_u, ↓xrk_u, ↓xrk0_u, ↓xob_v, ↓xmb_v, ↓xth_v, ↓xth_x, ↓jn_u, ↓xlen_u, ↓xaL_u, ↓xsL_u, ↓xbl_0, ↓xbl_1, eq_self, inb_n, inb_d, Sh_PI, Sh_PL, dk_PI, dk_PL, dr_PI, dr_PL, ↓reduceIte, Int32.reduceLE, Int32.reduceLT, Int32.reduceToNatClampNeg, Nat.reduceLT, Nat.reduceLeDiff, Nat.reduceEqDiff, Nat.reduceAdd, Nat.reduceMul, c1.1.1, c2.1.1, u, h1, if_true, a1, a2, hp7, i_nat (show p < 2147483648 by omega), h2, max_more2, i_succ]
        exact hnx ((_, _, _), M2) ⟨es.symm, hf2⟩
    · rw [if_neg h1] at es
      by_cases h2 : spnR A x3 x0 d z (i + 1) (7 + p) ≤ 0
      · rw [if_pos h2] at es
        simp -implicitDefEqProofs only [L_X1_span_65, i_geF hi (by omega), if_false, ↓gp0_2, ↓gp0_3, ↓gp0_4, ↓gp0_5, ↓gp0_6, ↓gp0_7, ↓gp0_8, ↓gp0_9, ↓gp0_10, ↓gp0_18, ↓gp0_19, ↓gp0_20, ↓gp0_22, ↓gp23_43, ↓gp23_32, ↓gp23_33, ↓gp23_34, ↓gp23_35, ↓gp23_36, ↓gp29_43, ↓gp29_32, ↓gp29_33, ↓gp29_34, ↓gp29_35, ↓gp29_36, ↓gp54_53, ↓gp54_54, ↓gp54_55, ↓gp54_56, ↓gp54_57, ↓gp54_58, ↓gp54_59, ↓gp54_60, ↓gp54_61, ↓gp54_62, ↓gp54_65, ↓gp54_66, ↓gp54_67, ↓gp54_68, ↓gp54_69, ↓gp54_70, ↓gp54_71, ↓gp54_73, ↓gp54_74, ↓gp54_75, ↓gp54_76, ↓gp54_84, ↓gp54_85, ↓gp54_87, ↓gp54_88, ↓xr59, kr59, ↓xr67, kr67, ↓xr75, kr75, ↓xr82, kr82, ↓xr89, kr89, ↓xr102, kr102, ↓xr115, kr115, ↓xr276, kr276, ↓xr437, kr437, ↓xr444, kr444, ↓xr453, kr453, ↓xr536, kr536, ↓xr553, kr553, hs0, hw0, hs1, hw1, hs2, hw2, hs3, hw3, hs4, hw4, hs5, hw5, hs6, hw6, hs7, hw7, hs8, hw8, hs9, hw9, hs10, hw10, hs11, hw11, hs12, hw12, hs13, hw13, hs14, hw14, hs15, hw15, hs16, hw16, hs17, hw17, hs18, hw18, hs19, hw19, hs20, hw20, hs21, hw21, hs22, hw22, hs23, hw23, hs25, hw25, hs26, hw26, hs27, hw27, hs28, hw28, hs9b, hw9b, hs10b, hw10b, kd0, kd20, kd21, kd22, kd23, kd24, kd25, kd26, kd27, kd28, kd29, kd30, kd31, kd32, kd33, kd34, kd35, kd36, kd37, kd38, kd39, kd40, kd41, kd42, kd54, kd55, kd56, kd57, kd58, kd59, kd67, kd75, kd82, kd89, kd102, kd115, kd276, kd437, kd444, kd451, kd452, kd453, kd534, kd535, kd536, kd553, kd557, kd558, kd559, kd560, kd561, ↓xgI_u, ↓xpI_u, ↓xaI_u, ↓xsI_u, ↓xrk_u, ↓xrk0_u, ↓xob_v, ↓xmb_v, ↓xth_v, ↓xth_x, ↓jn_u, ↓xlen_u, ↓xaL_u, ↓xsL_u, ↓xbl_0, ↓xbl_1, eq_self, inb_n, inb_d, Sh_PI, Sh_PL, dk_PI, dk_PL, dr_PI, dr_PL, ↓reduceIte, Int32.reduceLE, Int32.reduceLT, Int32.reduceToNatClampNeg, Nat.reduceLT, Nat.reduceLeDiff, Nat.reduceEqDiff, Nat.reduceAdd, Nat.reduceMul, c1.1.1, c2.1.1, u, h1, a1, a2, hp7, i_nat (show p < 2147483648 by omega), h2, if_true, max_more2, min_less, less_comm _ s.1, i_succ]
        exact hnx ((_, _, _), M2) ⟨es.symm, hf2⟩
      · rw [if_neg h2] at es
        simp -implicitDefEqProofs only [L_X1_span_65, i_geF hi (by omega), if_false, ↓gp0_2, ↓gp0_3, ↓gp0_4, ↓gp0_5, ↓gp0_6, ↓gp0_7, ↓gp0_8, ↓gp0_9, ↓gp0_10, ↓gp0_18, ↓gp0_19, ↓gp0_20, ↓gp0_22, ↓gp23_43, ↓gp23_32, ↓gp23_33, ↓gp23_34, ↓gp23_35, ↓gp23_36, ↓gp29_43, ↓gp29_32, ↓gp29_33, ↓gp29_34, ↓gp29_35, ↓gp29_36, ↓gp54_53, ↓gp54_54, ↓gp54_55, ↓gp54_56, ↓gp54_57, ↓gp54_58, ↓gp54_59, ↓gp54_60, ↓gp54_61, ↓gp54_62, ↓gp54_65, ↓gp54_66, ↓gp54_67, ↓gp54_68, ↓gp54_69, ↓gp54_70, ↓gp54_71, ↓gp54_73, ↓gp54_74, ↓gp54_75, ↓gp54_76, ↓gp54_84, ↓gp54_85, ↓gp54_87, ↓gp54_88, ↓xr59, kr59, ↓xr67, kr67, ↓xr75, kr75, ↓xr82, kr82, ↓xr89, kr89, ↓xr102, kr102, ↓xr115, kr115, ↓xr276, kr276, ↓xr437, kr437, ↓xr444, kr444, ↓xr453, kr453, ↓xr536, kr536, ↓xr553, kr553, hs0, hw0, hs1, hw1, hs2, hw2, hs3, hw3, hs4, hw4, hs5, hw5, hs6, hw6, hs7, hw7, hs8, hw8, hs9, hw9, hs10, hw10, hs11, hw11, hs12, hw12, hs13, hw13, hs14, hw14, hs15, hw15, hs16, hw16, hs17, hw17, hs18, hw18, hs19, hw19, hs20, hw20, hs21, hw21, hs22, hw22, hs23, hw23, hs25, hw25, hs26, hw26, hs27, hw27, hs28, hw28, hs9b, hw9b, hs10b, hw10b, kd0, kd20, kd21, kd22, kd23, kd24, kd25, kd26, kd27, kd28, kd29, kd30, kd31, kd32, kd33, kd34, kd35, kd36, kd37, kd38, kd39, kd40, kd41, kd42, kd54, kd55, kd56, kd57, kd58, kd59, kd67, kd75, kd82, kd89, kd102, kd115, kd276, kd437, kd444, kd451, kd452, kd453, kd534, kd535, kd536, kd553, kd557, kd558, kd559, kd560, kd561, ↓xgI_u, ↓xpI_u, ↓xaI_u, ↓xsI_u, ↓xrk_u, ↓xrk0_u, ↓xob_v, ↓xmb_v, ↓xth_v, ↓xth_x, ↓jn_u, ↓xlen_u, ↓xaL_u, ↓xsL_u, ↓xbl_0, ↓xbl_1, eq_self, inb_n, inb_d, Sh_PI, Sh_PL, dk_PI, dk_PL, dr_PI, dr_PL, ↓reduceIte, Int32.reduceLE, Int32.reduceLT, Int32.reduceToNatClampNeg, Nat.reduceLT, Nat.reduceLeDiff, Nat.reduceEqDiff, Nat.reduceAdd, Nat.reduceMul, c1.1.1, c2.1.1, u, h1, a1, a2, hp7, i_nat (show p < 2147483648 by omega), h2, max_more2, min_less, less_comm _ s.1, i_succ]
        exact hnx ((_, _, _), M2) ⟨es.symm, hf2⟩
theorem T_span {x0 x1 x2 x3 x4 x5 : Int32} {z : Nat → Int32} (hT : TInv b M A) (hz : dwI M (b + 535) = z) (g0 : inV x1 1 20 = 1) (g1 : inV x2 1 96 = 1) (g2 : inV x3 0 16 = 1) (g3 : inV x4 0 2 = 1) (g4 : inV x5 0 (Int32.ofNat (tP (aT A)) - 1) = 1) : ∃ M2, m_X10_span M (b + 54) x0 x1 x2 x3 x4 x5 = some (spnV A x0 x1 x2 x3 x4 x5 z, M2) ∧ fr (tSc b) nz 0 0 (dwPI M (b + 54) 44 0) M2 := by
  have o1 := hT.1.ok.1.1
  obtain ⟨m, hm, rfl⟩ := inV_1n (n := 20) (by omega) g0
  obtain ⟨d, hd, rfl⟩ := inV_1n (n := 96) (by omega) g1
  obtain ⟨p, hp, rfl⟩ := last_n (by omega) g4
  have hp79 : 7 + p < 79 := by omega
  obtain ⟨hT0, fz, z0⟩ := tinv_z hT
  have hs0 := hT0.1.1
  unfold spnV
  rw [i_nat (show m < 2147483648 by omega), i_nat (show d < 2147483648 by omega), i_nat (show p < 2147483648 by omega)]
  simp -implicitDefEqProofs only [m_X10_span, m_X10_isYear, ↓gp0_2, ↓gp0_3, ↓gp0_4, ↓gp0_5, ↓gp0_6, ↓gp0_7, ↓gp0_8, ↓gp0_9, ↓gp0_10, ↓gp0_18, ↓gp0_19, ↓gp0_20, ↓gp0_22, ↓gp23_43, ↓gp23_32, ↓gp23_33, ↓gp23_34, ↓gp23_35, ↓gp23_36, ↓gp29_43, ↓gp29_32, ↓gp29_33, ↓gp29_34, ↓gp29_35, ↓gp29_36, ↓gp54_53, ↓gp54_54, ↓gp54_55, ↓gp54_56, ↓gp54_57, ↓gp54_58, ↓gp54_59, ↓gp54_60, ↓gp54_61, ↓gp54_62, ↓gp54_65, ↓gp54_66, ↓gp54_67, ↓gp54_68, ↓gp54_69, ↓gp54_70, ↓gp54_71, ↓gp54_73, ↓gp54_74, ↓gp54_75, ↓gp54_76, ↓gp54_84, ↓gp54_85, ↓gp54_87, ↓gp54_88, ↓xr59, kr59, ↓xr67, kr67, ↓xr75, kr75, ↓xr82, kr82, ↓xr89, kr89, ↓xr102, kr102, ↓xr115, kr115, ↓xr276, kr276, ↓xr437, kr437, ↓xr444, kr444, ↓xr453, kr453, ↓xr536, kr536, ↓xr553, kr553, hs0, hw0, hs1, hw1, hs2, hw2, hs3, hw3, hs4, hw4, hs5, hw5, hs6, hw6, hs7, hw7, hs8, hw8, hs9, hw9, hs10, hw10, hs11, hw11, hs12, hw12, hs13, hw13, hs14, hw14, hs15, hw15, hs16, hw16, hs17, hw17, hs18, hw18, hs19, hw19, hs20, hw20, hs21, hw21, hs22, hw22, hs23, hw23, hs25, hw25, hs26, hw26, hs27, hw27, hs28, hw28, hs9b, hw9b, hs10b, hw10b, kd0, kd20, kd21, kd22, kd23, kd24, kd25, kd26, kd27, kd28, kd29, kd30, kd31, kd32, kd33, kd34, kd35, kd36, kd37, kd38, kd39, kd40, kd41, kd42, kd54, kd55, kd56, kd57, kd58, kd59, kd67, kd75, kd82, kd89, kd102, kd115, kd276, kd437, kd444, kd451, kd452, kd453, kd534, kd535, kd536, kd553, kd557, kd558, kd559, kd560, kd561, ↓xgI_u, ↓xpI_u, ↓xaI_u, ↓xsI_u, ↓xrk_u, ↓xrk0_u, ↓xob_v, ↓xmb_v, ↓xth_v, ↓xth_x, ↓jn_u, ↓xlen_u, ↓xaL_u, ↓xsL_u, ↓xbl_0, ↓xbl_1, eq_self, inb_n, inb_d, Sh_PI, Sh_PL, dk_PI, dk_PL, dr_PI, dr_PL, ↓reduceIte, Int32.reduceLE, Int32.reduceLT, Int32.reduceToNatClampNeg, Nat.reduceLT, Nat.reduceLeDiff, Nat.reduceEqDiff, Nat.reduceAdd, Nat.reduceMul, hT.1.1, t_in, g0, g1, g2, g3, t_isP hs0 hT0.1.2.1, g4, e10, t_bad0 hs0 z0]
  generalize hK : (fun (y7 : Int32) (y8 : Int32) (y9 : Int32) (M10 : dwSt) => if x4 = 0 then some (y7, M10) else if x4 = 1 then some (y8, M10) else some (y9, M10)) = K
  refine lpx (E := fun x => ∃ M1, x = some (if x4 = 0 then (spnA A x3 x0 d p z m).1 else if x4 = 1 then (spnA A x3 x0 d p z m).2.1 else (spnA A x3 x0 d p z m).2.2, M1) ∧ fr (tSc b) nz 0 0 (dwPI M (b + 54) 44 0) M1) (fun f i (s : (Int32 × Int32 × Int32) × dwSt) => L_X10_span_71 (b + 54) x0 (Int32.ofNat m) (Int32.ofNat d) x3 x4 (Int32.ofNat p) K f s.1.1 s.1.2.1 s.1.2.2 (Int32.ofNat i) s.2) m (fun i s => s.1 = spnA A x3 x0 d p z i ∧ dwI s.2 (b + 535) = spnR A x3 x0 d z i ∧ fr (tSc b) nz 0 0 (dwPI M (b + 54) 44 0) s.2) ?_ ?_ 1000000 0 ((-1, 0, 0), dwPI M (b + 54) 44 0) (by omega) (by omega) ⟨rfl, (di_off (by omega)).trans hz, fr.refl _⟩
  · intro f ⟨s, M1⟩ ⟨e, er, hf⟩
    refine ⟨M1, ?_, hf⟩
    have e' : s = _ := e
    show L_X10_span_71 (b + 54) x0 (Int32.ofNat m) (Int32.ofNat d) x3 x4 (Int32.ofNat p) K (f + 1) s.1 s.2.1 s.2.2 (Int32.ofNat m) M1 = _
    simp -implicitDefEqProofs only [L_X10_span_71, i_geT, if_true]
    rw [e', ← hK]
    by_cases h0 : x4 = 0
    · simp only [h0, if_true]
    · by_cases h1 : x4 = 1
      · simp only [h1, if_true, e10, if_false]
      · simp only [h0, h1, if_false]
  · intro f i ⟨s, M1⟩ hi ⟨e, er, hf⟩ hnx
    have c1 := tinv_s hT0 hf
    have e' : s = _ := e
    obtain ⟨M2, u, f2, hr⟩ := t_yearBy (seed := x0 + Int32.ofNat i) (q := x3) (n := d) c1 (by omega)
    rw [show dwI M1 (b + 535) = _ from er] at hr
    have hf2 := hf.t0 f2
    have c2 := tinv_s hT0 hf2
    have es : spnA A x3 x0 d p z (i + 1) = spnP (aT A) (spnR A x3 x0 d z (i + 1)) p s := by rw [e']; rfl
    have hR : (yrS (aT A) (aLw A) x3 (x0 + Int32.ofNat i) (cp79 (aNow A) (spnR A x3 x0 d z i)) d).1 = spnR A x3 x0 d z (i + 1) := rfl
    rw [hR] at hr
    show ∃ M3, L_X10_span_71 (b + 54) x0 (Int32.ofNat m) (Int32.ofNat d) x3 x4 (Int32.ofNat p) K (f + 1) s.1 s.2.1 s.2.2 (Int32.ofNat i) M1 = _ ∧ _
    unfold spnP at es
    by_cases h1 : s.1 = -1
    · rw [if_pos h1] at es
      by_cases h2 : spnR A x3 x0 d z (i + 1) (7 + p) ≤ 0
      · rw [if_pos h2] at es
        simp -implicitDefEqProofs only [L_X10_span_71, i_geF hi (by omega), if_false, ↓gp0_2, ↓gp0_3, ↓gp0_4, ↓gp0_5, ↓gp0_6, ↓gp0_7, ↓gp0_8, ↓gp0_9, ↓gp0_10, ↓gp0_18, ↓gp0_19, ↓gp0_20, ↓gp0_22, ↓gp23_43, ↓gp23_32, ↓gp23_33, ↓gp23_34, ↓gp23_35, ↓gp23_36, ↓gp29_43, ↓gp29_32, ↓gp29_33, ↓gp29_34, ↓gp29_35, ↓gp29_36, ↓gp54_53, ↓gp54_54, ↓gp54_55, ↓gp54_56, ↓gp54_57, ↓gp54_58, ↓gp54_59, ↓gp54_60, ↓gp54_61, ↓gp54_62, ↓gp54_65, ↓gp54_66, ↓gp54_67, ↓gp54_68, ↓gp54_69, ↓gp54_70, ↓gp54_71, ↓gp54_73, ↓gp54_74, ↓gp54_75, ↓gp54_76, ↓gp54_84, ↓gp54_85, ↓gp54_87, ↓gp54_88, ↓xr59, kr59, ↓xr67, kr67, ↓xr75, kr75, ↓xr82, kr82, ↓xr89, kr89, ↓xr102, kr102, ↓xr115, kr115, ↓xr276, kr276, ↓xr437, kr437, ↓xr444, kr444, ↓xr453, kr453, ↓xr536, kr536, ↓xr553, kr553, hs0, hw0, hs1, hw1, hs2, hw2, hs3, hw3, hs4, hw4, hs5, hw5, hs6, hw6, hs7, hw7, hs8, hw8, hs9, hw9, hs10, hw10, hs11, hw11, hs12, hw12, hs13, hw13, hs14, hw14, hs15, hw15, hs16, hw16, hs17, hw17, hs18, hw18, hs19, hw19, hs20, hw20, hs21, hw21, hs22, hw22, hs23, hw23, hs25, hw25, hs26, hw26, hs27, hw27, hs28, hw28, hs9b, hw9b, hs10b, hw10b, kd0, kd20, kd21, kd22, kd23, kd24, kd25, kd26, kd27, kd28, kd29, kd30, kd31, kd32, kd33, kd34, kd35, kd36, kd37, kd38, kd39, kd40, kd41, kd42, kd54, kd55, kd56, kd57, kd58, kd59, kd67, kd75, kd82, kd89, kd102, kd115, kd276, kd437, kd444, kd451, kd452, kd453, kd534, kd535, kd536, kd553, kd557, kd558, kd559, kd560, kd561, ↓xgI_u, ↓xpI_u, ↓xaI_u, ↓xsI_u, ↓xrk_u, ↓xrk0_u, ↓xob_v, ↓xmb_v, ↓xth_v, ↓xth_x, ↓jn_u, ↓xlen_u, ↓xaL_u, ↓xsL_u, ↓xbl_0, ↓xbl_1, eq_self, inb_n, inb_d, Sh_PI, Sh_PL, dk_PI, dk_PL, dr_PI, dr_PL, ↓reduceIte, Int32.reduceLE, Int32.reduceLT, Int32.reduceToNatClampNeg, Nat.reduceLT, Nat.reduceLeDiff, Nat.reduceEqDiff, Nat.reduceAdd, Nat.reduceMul, c1.1.1, c2.1.1, u, h1, if_true, hr, x_c7, hp79, i_nat (show 7 + p < 2147483648 by omega), h2, t_more, i_succ]
        exact hnx ((_, _, _), M2) ⟨es.symm, hr, hf2⟩
      · rw [if_neg h2] at es
        simp -implicitDefEqProofs only [L_X10_span_71, i_geF hi (by omega), if_false, ↓gp0_2, ↓gp0_3, ↓gp0_4, ↓gp0_5, ↓gp0_6, ↓gp0_7, ↓gp0_8, ↓gp0_9, ↓gp0_10, ↓gp0_18, ↓gp0_19, ↓gp0_20, ↓gp0_22, ↓gp23_43, ↓gp23_32, ↓gp23_33, ↓gp23_34, ↓gp23_35, ↓gp23_36, ↓gp29_43, ↓gp29_32, ↓gp29_33, ↓gp29_34, ↓gp29_35, ↓gp29_36, ↓gp54_53, ↓gp54_54, ↓gp54_55, ↓gp54_56, ↓gp54_57, ↓gp54_58, ↓gp54_59, ↓gp54_60, ↓gp54_61, ↓gp54_62, ↓gp54_65, ↓gp54_66, ↓gp54_67, ↓gp54_68, ↓gp54_69, ↓gp54_70, ↓gp54_71, ↓gp54_73, ↓gp54_74, ↓gp54_75, ↓gp54_76, ↓gp54_84, ↓gp54_85, ↓gp54_87, ↓gp54_88, ↓xr59, kr59, ↓xr67, kr67, ↓xr75, kr75, ↓xr82, kr82, ↓xr89, kr89, ↓xr102, kr102, ↓xr115, kr115, ↓xr276, kr276, ↓xr437, kr437, ↓xr444, kr444, ↓xr453, kr453, ↓xr536, kr536, ↓xr553, kr553, hs0, hw0, hs1, hw1, hs2, hw2, hs3, hw3, hs4, hw4, hs5, hw5, hs6, hw6, hs7, hw7, hs8, hw8, hs9, hw9, hs10, hw10, hs11, hw11, hs12, hw12, hs13, hw13, hs14, hw14, hs15, hw15, hs16, hw16, hs17, hw17, hs18, hw18, hs19, hw19, hs20, hw20, hs21, hw21, hs22, hw22, hs23, hw23, hs25, hw25, hs26, hw26, hs27, hw27, hs28, hw28, hs9b, hw9b, hs10b, hw10b, kd0, kd20, kd21, kd22, kd23, kd24, kd25, kd26, kd27, kd28, kd29, kd30, kd31, kd32, kd33, kd34, kd35, kd36, kd37, kd38, kd39, kd40, kd41, kd42, kd54, kd55, kd56, kd57, kd58, kd59, kd67, kd75, kd82, kd89, kd102, kd115, kd276, kd437, kd444, kd451, kd452, kd453, kd534, kd535, kd536, kd553, kd557, kd558, kd559, kd560, kd561, ↓xgI_u, ↓xpI_u, ↓xaI_u, ↓xsI_u, ↓xrk_u, ↓xrk0_u, ↓xob_v, ↓xmb_v, ↓xth_v, ↓xth_x, ↓jn_u, ↓xlen_u, ↓xaL_u, ↓xsL_u, ↓xbl_0, ↓xbl_1, eq_self, inb_n, inb_d, Sh_PI, Sh_PL, dk_PI, dk_PL, dr_PI, dr_PL, ↓reduceIte, Int32.reduceLE, Int32.reduceLT, Int32.reduceToNatClampNeg, Nat.reduceLT, Nat.reduceLeDiff, Nat.reduceEqDiff, Nat.reduceAdd, Nat.reduceMul, c1.1.1, c2.1.1, u, h1, if_true, hr, x_c7, hp79, i_nat (show 7 + p < 2147483648 by omega), h2, t_more, i_succ]
        exact hnx ((_, _, _), M2) ⟨es.symm, hr, hf2⟩
    · rw [if_neg h1] at es
      by_cases h2 : spnR A x3 x0 d z (i + 1) (7 + p) ≤ 0
      · rw [if_pos h2] at es
        simp -implicitDefEqProofs only [L_X10_span_71, i_geF hi (by omega), if_false, ↓gp0_2, ↓gp0_3, ↓gp0_4, ↓gp0_5, ↓gp0_6, ↓gp0_7, ↓gp0_8, ↓gp0_9, ↓gp0_10, ↓gp0_18, ↓gp0_19, ↓gp0_20, ↓gp0_22, ↓gp23_43, ↓gp23_32, ↓gp23_33, ↓gp23_34, ↓gp23_35, ↓gp23_36, ↓gp29_43, ↓gp29_32, ↓gp29_33, ↓gp29_34, ↓gp29_35, ↓gp29_36, ↓gp54_53, ↓gp54_54, ↓gp54_55, ↓gp54_56, ↓gp54_57, ↓gp54_58, ↓gp54_59, ↓gp54_60, ↓gp54_61, ↓gp54_62, ↓gp54_65, ↓gp54_66, ↓gp54_67, ↓gp54_68, ↓gp54_69, ↓gp54_70, ↓gp54_71, ↓gp54_73, ↓gp54_74, ↓gp54_75, ↓gp54_76, ↓gp54_84, ↓gp54_85, ↓gp54_87, ↓gp54_88, ↓xr59, kr59, ↓xr67, kr67, ↓xr75, kr75, ↓xr82, kr82, ↓xr89, kr89, ↓xr102, kr102, ↓xr115, kr115, ↓xr276, kr276, ↓xr437, kr437, ↓xr444, kr444, ↓xr453, kr453, ↓xr536, kr536, ↓xr553, kr553, hs0, hw0, hs1, hw1, hs2, hw2, hs3, hw3, hs4, hw4, hs5, hw5, hs6, hw6, hs7, hw7, hs8, hw8, hs9, hw9, hs10, hw10, hs11, hw11, hs12, hw12, hs13, hw13, hs14, hw14, hs15, hw15, hs16, hw16, hs17, hw17, hs18, hw18, hs19, hw19, hs20, hw20, hs21, hw21, hs22, hw22, hs23, hw23, hs25, hw25, hs26, hw26, hs27, hw27, hs28, hw28, hs9b, hw9b, hs10b, hw10b, kd0, kd20, kd21, kd22, kd23, kd24, kd25, kd26, kd27, kd28, kd29, kd30, kd31, kd32, kd33, kd34, kd35, kd36, kd37, kd38, kd39, kd40, kd41, kd42, kd54, kd55, kd56, kd57, kd58, kd59, kd67, kd75, kd82, kd89, kd102, kd115, kd276, kd437, kd444, kd451, kd452, kd453, kd534, kd535, kd536, kd553, kd557, kd558, kd559, kd560, kd561, ↓xgI_u, ↓xpI_u, ↓xaI_u, ↓xsI_u, ↓xrk_u, ↓xrk0_u, ↓xob_v, ↓xmb_v, ↓xth_v, ↓xth_x, ↓jn_u, ↓xlen_u, ↓xaL_u, ↓xsL_u, ↓xbl_0, ↓xbl_1, eq_self, inb_n, inb_d, Sh_PI, Sh_PL, dk_PI, dk_PL, dr_PI, dr_PL, ↓reduceIte, Int32.reduceLE, Int32.reduceLT, Int32.reduceToNatClampNeg, Nat.reduceLT, Nat.reduceLeDiff, Nat.reduceEqDiff, Nat.reduceAdd, Nat.reduceMul, c1.1.1, c2.1.1, u, h1, hr, x_c7, hp79, i_nat (show 7 + p < 2147483648 by omega), h2, if_true, t_more, t_less, i_succ]
        exact hnx ((_, _, _), M2) ⟨es.symm, hr, hf2⟩
      · rw [if_neg h2] at es
        simp -implicitDefEqProofs only [L_X10_span_71, i_geF hi (by omega), if_false, ↓gp0_2, ↓gp0_3, ↓gp0_4, ↓gp0_5, ↓gp0_6, ↓gp0_7, ↓gp0_8, ↓gp0_9, ↓gp0_10, ↓gp0_18, ↓gp0_19, ↓gp0_20, ↓gp0_22, ↓gp23_43, ↓gp23_32, ↓gp23_33, ↓gp23_34, ↓gp23_35, ↓gp23_36, ↓gp29_43, ↓gp29_32, ↓gp29_33, ↓gp29_34, ↓gp29_35, ↓gp29_36, ↓gp54_53, ↓gp54_54, ↓gp54_55, ↓gp54_56, ↓gp54_57, ↓gp54_58, ↓gp54_59, ↓gp54_60, ↓gp54_61, ↓gp54_62, ↓gp54_65, ↓gp54_66, ↓gp54_67, ↓gp54_68, ↓gp54_69, ↓gp54_70, ↓gp54_71, ↓gp54_73, ↓gp54_74, ↓gp54_75, ↓gp54_76, ↓gp54_84, ↓gp54_85, ↓gp54_87, ↓gp54_88, ↓xr59, kr59, ↓xr67, kr67, ↓xr75, kr75, ↓xr82, kr82, ↓xr89, kr89, ↓xr102, kr102, ↓xr115, kr115, ↓xr276, kr276, ↓xr437, kr437, ↓xr444, kr444, ↓xr453, kr453, ↓xr536, kr536, ↓xr553, kr553, hs0, hw0, hs1, hw1, hs2, hw2, hs3, hw3, hs4, hw4, hs5, hw5, hs6, hw6, hs7, hw7, hs8, hw8, hs9, hw9, hs10, hw10, hs11, hw11, hs12, hw12, hs13, hw13, hs14, hw14, hs15, hw15, hs16, hw16, hs17, hw17, hs18, hw18, hs19, hw19, hs20, hw20, hs21, hw21, hs22, hw22, hs23, hw23, hs25, hw25, hs26, hw26, hs27, hw27, hs28, hw28, hs9b, hw9b, hs10b, hw10b, kd0, kd20, kd21, kd22, kd23, kd24, kd25, kd26, kd27, kd28, kd29, kd30, kd31, kd32, kd33, kd34, kd35, kd36, kd37, kd38, kd39, kd40, kd41, kd42, kd54, kd55, kd56, kd57, kd58, kd59, kd67, kd75, kd82, kd89, kd102, kd115, kd276, kd437, kd444, kd451, kd452, kd453, kd534, kd535, kd536, kd553, kd557, kd558, kd559, kd560, kd561, ↓xgI_u, ↓xpI_u, ↓xaI_u, ↓xsI_u, ↓xrk_u, ↓xrk0_u, ↓xob_v, ↓xmb_v, ↓xth_v, ↓xth_x, ↓jn_u, ↓xlen_u, ↓xaL_u, ↓xsL_u, ↓xbl_0, ↓xbl_1, eq_self, inb_n, inb_d, Sh_PI, Sh_PL, dk_PI, dk_PL, dr_PI, dr_PL, ↓reduceIte, Int32.reduceLE, Int32.reduceLT, Int32.reduceToNatClampNeg, Nat.reduceLT, Nat.reduceLeDiff, Nat.reduceEqDiff, Nat.reduceAdd, Nat.reduceMul, c1.1.1, c2.1.1, u, h1, hr, x_c7, hp79, i_nat (show 7 + p < 2147483648 by omega), h2, t_more, t_less, i_succ]
        exact hnx ((_, _, _), M2) ⟨es.symm, hr, hf2⟩
end CALL
