/-! THE COMPONENT's rows and laughs -/
theorem i_neg {p : Nat} (h : p < 2147483648) : (Int32.ofNat p < 0) = False := by
  rw [← i_zero, i_lt h (by omega)]; exact eq_false (by omega)
theorem i_ltT {p n : Nat} (h : p < n) (hn : n < 2147483648) : (Int32.ofNat p < Int32.ofNat n) = True := by
  rw [i_lt (by omega) hn]; exact eq_true h
theorem xgR_v {ρ : Type} {M : dwSt} {f o t : Nat} (h : dwHas (dwK M o) f = true) (h2 : dwR M o f = some t) (K : Nat → Option ρ) : xgR M f o K = K t := by
  unfold xgR; rw [if_pos h, h2]
theorem xaR_v {ρ : Type} {M : dwSt} {t a n p q : Nat} (h : dwK M a = (t, n)) (hp : p < n) (hn : n < 2147483648) (h2 : dwR M a p = some q) (K : Nat → Option ρ) : xaR M t a (Int32.ofNat p) K = K q := by
  unfold xaR; rw [i_nat (by omega), i_toInt (by omega), h2, h, if_pos ⟨rfl, by omega, by show (p : Int) < ((n : Nat) : Int); omega⟩]
theorem xrc_u {ρ : Type} {M : dwSt} {o ci : Nat} {cs : List Nat} {X : Option ρ} (h : dwK M o = (0, ci)) (hc : cs.contains ci = true) : xrc M o cs X = X := by
  unfold xrc; rw [h, if_pos ⟨rfl, hc⟩]
theorem i_and (a c : Nat) : Int32.ofNat a &&& Int32.ofNat c = Int32.ofNat (a &&& c) := by
  apply Int32.toBitVec.inj
  rw [Int32.toBitVec_and, Int32.toBitVec_ofNat', Int32.toBitVec_ofNat', Int32.toBitVec_ofNat', BitVec.ofNat_and]
theorem i_or (a c : Nat) : Int32.ofNat a ||| Int32.ofNat c = Int32.ofNat (a ||| c) := by
  apply Int32.toBitVec.inj
  rw [Int32.toBitVec_or, Int32.toBitVec_ofNat', Int32.toBitVec_ofNat', Int32.toBitVec_ofNat', BitVec.ofNat_or]
theorem bI_n : ∀ p, p < 7 → bI (Int32.ofNat p) = Int32.ofNat (2 ^ p) := by decide +kernel
/-- a set of at most seven -/
def set7 (x : Int32) : Prop := ∃ m, m < 128 ∧ x = Int32.ofNat m
theorem set7_or {x y : Int32} (hx : set7 x) (hy : set7 y) : set7 (x ||| y) := by
  obtain ⟨m, hm, rfl⟩ := hx
  obtain ⟨k, hk, rfl⟩ := hy
  exact ⟨m ||| k, Nat.or_lt_two_pow (n := 7) hm hk, i_or m k⟩
theorem set7_and {x y : Int32} (hx : set7 x) (hy : set7 y) : set7 (x &&& y) := by
  obtain ⟨m, hm, rfl⟩ := hx
  obtain ⟨k, hk, rfl⟩ := hy
  exact ⟨m &&& k, Nat.and_lt_two_pow (n := 7) m hk, i_and m k⟩
theorem set7_0 : set7 0 := ⟨0, by omega, rfl⟩
theorem set7_b {p : Nat} (h : p < 7) : set7 (bI (Int32.ofNat p)) := ⟨2 ^ p, by
  rcases (by omega : p = 0 ∨ p = 1 ∨ p = 2 ∨ p = 3 ∨ p = 4 ∨ p = 5 ∨ p = 6) with rfl | rfl | rfl | rfl | rfl | rfl | rfl <;> decide, bI_n p h⟩
theorem set7_itr {f : Nat → Int32} : ∀ n, (∀ i, i < n → set7 (f i)) → set7 (itr (fun p x => x ||| f p) 0 n) := by
  intro n
  induction n with
  | zero => intro _; exact set7_0
  | succ n ih => intro h; exact set7_or (ih fun i hi => h i (by omega)) (h n (by omega))
theorem set7_who {n : Nat} {r : Nat → Int32} {o : Nat} (h : n ≤ 7) : set7 (whoS n r o) := set7_itr n fun i hi => by
  split
  · exact set7_0
  · exact set7_b (by omega)
theorem set7_near {T : dvT} {p : Nat} (h : tOK T) : set7 (nearS T p) := set7_itr _ fun i hi => by
  obtain ⟨a, c, ha, hc, -, e0, e1⟩ := h.2.2.2.2.2.1 i hi
  have := h.1
  rw [e0, e1]
  split
  · exact set7_b (by omega)
  · split
    · exact set7_b (by omega)
    · exact set7_0
theorem bitCount7 : ∀ m, m < 128 → m_J16_bitCount (Int32.ofNat m) = some (onesS (Int32.ofNat m)) := by decide +kernel
theorem c_bits {x : Int32} (h : set7 x) : m_J16_bitCount x = some (onesS x) := by
  obtain ⟨m, hm, rfl⟩ := h
  exact bitCount7 m hm
theorem clamp_eq (v : Int32) : (if (0 : Int32) < (if (v : Int32) < 40 then v else 40) then (if (v : Int32) < 40 then v else 40) else 0) = clampS v := by
  unfold clampS lessS moreS
  simp only [Int32.lt_iff_toInt_lt, Int32.le_iff_toInt_le, show (0 : Int32).toInt = 0 from rfl, show (40 : Int32).toInt = 40 from rfl]
  by_cases h1 : v.toInt < 40
  · rw [if_pos h1]
    by_cases h2 : 0 < v.toInt
    · rw [if_pos h2, if_pos (show (0 : Int) ≤ v.toInt by omega), if_pos (show v.toInt ≤ 40 by omega)]
    · rw [if_neg h2]
      by_cases h3 : 0 ≤ v.toInt
      · have e : v = 0 := Int32.toInt.inj (by rw [show (0 : Int32).toInt = 0 from rfl]; omega)
        subst e
        rfl
      · rw [if_neg h3]; rfl
  · rw [if_neg h1]
    rw [if_pos (show (0 : Int) ≤ v.toInt by omega)]
    by_cases h3 : v.toInt ≤ 40
    · rw [if_pos h3]
      have e : v = 40 := Int32.toInt.inj (by rw [show (40 : Int32).toInt = 40 from rfl]; omega)
      subst e
      rfl
    · rw [if_neg h3]; rfl
theorem apart_eq (x y : Int32) : (if 0 ≤ (x - y) then (x - y) else 0 - (x - y)) = moreS (y - x) (x - y) := by
  have e : y - x = -(x - y) := (Int32.neg_sub (a := x) (b := y)).symm
  unfold moreS
  rw [e, Int32.zero_sub]
  generalize x - y = d
  have h1 := Int32.le_toInt d
  have h2 := Int32.toInt_lt d
  have hn : (-d).toInt = (-d.toInt).bmod (2 ^ 32) := Int32.toInt_neg d
  simp only [Int32.le_iff_toInt_le, show (0 : Int32).toInt = 0 from rfl]
  by_cases hm : d.toInt = -2147483648
  · have e : d = -d := Int32.toInt.inj (by rw [hn, hm]; decide)
    rw [← e]
    split <;> split <;> rfl
  · have hb : (-d).toInt = -d.toInt := by
      rw [hn]
      exact Int.bmod_eq_of_le (by omega) (by omega)
    rw [hb]
    by_cases h3 : 0 ≤ d.toInt
    · rw [if_pos h3, if_pos (by omega)]
    · rw [if_neg h3, if_neg (by omega)]
section COMP
variable {b : Nat} {w : Nat → Nat} {M : dwSt} {T : dvT} {lw : (Nat → Int32) → Int32}
theorem c_get {l n ci f0 f1 p : Nat} {g : Nat → Nat → Int32} (h : cList b w M l n ci f0 f1 g) (hp : p < n) : ∃ q, m_J2_get M l (Int32.ofNat p) = some q ∧ own b w M 1 q ∧ dwK M q = (0, ci) ∧ dwI M q f0 = g p 0 ∧ dwI M q f1 = g p 1 := by
  obtain ⟨h1, h2, h3, e, cap, h4, h5, h6, h7, h8, h9⟩ := h
  obtain ⟨q, q1, q2, q3, q4, q5⟩ := h9 p hp
  refine ⟨q, ?_, q1, q3, q4, q5⟩
  have g1 : ∀ {ρ : Type} (K : Nat → Option ρ), xgR M 125 l K = K e := fun K => xgR_v (by rw [h2]; rfl) h5 K
  have g2 : ∀ {ρ : Type} (K : Nat → Option ρ), xaR M 6 e (Int32.ofNat p) K = K q := fun K => xaR_v h6 (by omega) (by omega) q2 K
  simp -implicitDefEqProofs only [m_J2_get, m_J17_checkIndex, m_J14_checkIndex, m_J2_elementData, ↓xgI_u, ↓xpI_u, ↓xaI_u, ↓xsI_u, ↓xrk_u, ↓xrk0_u, ↓xob_v, ↓xmb_v, ↓xth_v, ↓xth_x, ↓jn_u, ↓xlen_u, ↓xaL_u, ↓xsL_u, ↓xbl_0, ↓xbl_1, eq_self, inb_n, inb_d, Sh_PI, Sh_PL, dk_PI, dk_PL, dr_PI, dr_PL, ↓reduceIte, Int32.reduceLE, Int32.reduceLT, Int32.reduceToNatClampNeg, Nat.reduceLT, Nat.reduceLeDiff, Nat.reduceEqDiff, Nat.reduceAdd, Nat.reduceMul, h2, hs26, h3, i_neg (show p < 2147483648 by omega), if_false, i_ltT hp (by omega), if_true, g1, g2]
theorem c_told (hs : Sh b M) (h : cTold b w M T) : ∃ d, (∀ {ρ : Type} (K : Nat → Option ρ), xgR M 0 b K = K d) ∧ cToldAt b w M d T ∧ tOK T := by
  obtain ⟨d, h1, h2, h3⟩ := h
  exact ⟨d, fun K => xgR_v (by rw [kd0 hs]; rfl) h1 K, h2, h3⟩
theorem c_persons (hs : Sh b M) (h : cTold b w M T) : m_X1_persons M b = some (Int32.ofNat (tP T)) := by
  obtain ⟨d, g0, ⟨-, h2, ⟨l, h3, h4⟩, -⟩, -⟩ := c_told hs h
  have g1 : ∀ {ρ : Type} (K : Nat → Option ρ), xgR M 23 d K = K l := fun K => xgR_v (by rw [h2]; rfl) h3 K
  simp -implicitDefEqProofs only [m_X1_persons, m_J2_size, ↓xgI_u, ↓xpI_u, ↓xaI_u, ↓xsI_u, ↓xrk_u, ↓xrk0_u, ↓xob_v, ↓xmb_v, ↓xth_v, ↓xth_x, ↓jn_u, ↓xlen_u, ↓xaL_u, ↓xsL_u, ↓xbl_0, ↓xbl_1, eq_self, inb_n, inb_d, Sh_PI, Sh_PL, dk_PI, dk_PL, dr_PI, dr_PL, ↓reduceIte, Int32.reduceLE, Int32.reduceLT, Int32.reduceToNatClampNeg, Nat.reduceLT, Nat.reduceLeDiff, Nat.reduceEqDiff, Nat.reduceAdd, Nat.reduceMul, g0, g1, h4.2.1, hs26, h4.2.2.1]
theorem c_jokes (hs : Sh b M) (h : cTold b w M T) : m_X1_jokes M b = some (Int32.ofNat (tJ T)) := by
  obtain ⟨d, g0, ⟨-, h2, -, ⟨l, h3, h4⟩, -⟩, -⟩ := c_told hs h
  have g1 : ∀ {ρ : Type} (K : Nat → Option ρ), xgR M 24 d K = K l := fun K => xgR_v (by rw [h2]; rfl) h3 K
  simp -implicitDefEqProofs only [m_X1_jokes, m_J2_size, ↓xgI_u, ↓xpI_u, ↓xaI_u, ↓xsI_u, ↓xrk_u, ↓xrk0_u, ↓xob_v, ↓xmb_v, ↓xth_v, ↓xth_x, ↓jn_u, ↓xlen_u, ↓xaL_u, ↓xsL_u, ↓xbl_0, ↓xbl_1, eq_self, inb_n, inb_d, Sh_PI, Sh_PL, dk_PI, dk_PL, dr_PI, dr_PL, ↓reduceIte, Int32.reduceLE, Int32.reduceLT, Int32.reduceToNatClampNeg, Nat.reduceLT, Nat.reduceLeDiff, Nat.reduceEqDiff, Nat.reduceAdd, Nat.reduceMul, g0, g1, h4.2.1, hs26, h4.2.2.1]
theorem c_personOf {p : Nat} (hs : Sh b M) (h : cTold b w M T) (hp : p < tP T) : ∃ q, m_X1_personOf M b (Int32.ofNat p) = some q ∧ dwK M q = (0, 6) ∧ dwI M q 104 = tpe T p 0 ∧ dwI M q 105 = tpe T p 1 ∧ own b w M 1 q := by
  obtain ⟨d, g0, ⟨-, h2, ⟨l, h3, h4⟩, -⟩, -⟩ := c_told hs h
  have g1 : ∀ {ρ : Type} (K : Nat → Option ρ), xgR M 23 d K = K l := fun K => xgR_v (by rw [h2]; rfl) h3 K
  obtain ⟨q, q1, q2, q3, q4, q5⟩ := c_get h4 hp
  refine ⟨q, ?_, q3, q4, q5, q2⟩
  simp -implicitDefEqProofs only [m_X1_personOf, ↓xgI_u, ↓xpI_u, ↓xaI_u, ↓xsI_u, ↓xrk_u, ↓xrk0_u, ↓xob_v, ↓xmb_v, ↓xth_v, ↓xth_x, ↓jn_u, ↓xlen_u, ↓xaL_u, ↓xsL_u, ↓xbl_0, ↓xbl_1, eq_self, inb_n, inb_d, Sh_PI, Sh_PL, dk_PI, dk_PL, dr_PI, dr_PL, ↓reduceIte, Int32.reduceLE, Int32.reduceLT, Int32.reduceToNatClampNeg, Nat.reduceLT, Nat.reduceLeDiff, Nat.reduceEqDiff, Nat.reduceAdd, Nat.reduceMul, g0, g1, h4.2.1, q1]
  exact xrc_u q3 rfl
theorem c_jokeOf {j : Nat} (hs : Sh b M) (h : cTold b w M T) (hj : j < tJ T) : ∃ q, m_X1_jokeOf M b (Int32.ofNat j) = some q ∧ dwK M q = (0, 7) ∧ dwI M q 106 = tjo T j 0 ∧ dwI M q 107 = tjo T j 1 ∧ own b w M 1 q := by
  obtain ⟨d, g0, ⟨-, h2, -, ⟨l, h3, h4⟩, -⟩, -⟩ := c_told hs h
  have g1 : ∀ {ρ : Type} (K : Nat → Option ρ), xgR M 24 d K = K l := fun K => xgR_v (by rw [h2]; rfl) h3 K
  obtain ⟨q, q1, q2, q3, q4, q5⟩ := c_get h4 hj
  refine ⟨q, ?_, q3, q4, q5, q2⟩
  simp -implicitDefEqProofs only [m_X1_jokeOf, ↓xgI_u, ↓xpI_u, ↓xaI_u, ↓xsI_u, ↓xrk_u, ↓xrk0_u, ↓xob_v, ↓xmb_v, ↓xth_v, ↓xth_x, ↓jn_u, ↓xlen_u, ↓xaL_u, ↓xsL_u, ↓xbl_0, ↓xbl_1, eq_self, inb_n, inb_d, Sh_PI, Sh_PL, dk_PI, dk_PL, dr_PI, dr_PL, ↓reduceIte, Int32.reduceLE, Int32.reduceLT, Int32.reduceToNatClampNeg, Nat.reduceLT, Nat.reduceLeDiff, Nat.reduceEqDiff, Nat.reduceAdd, Nat.reduceMul, g0, g1, h4.2.1, q1]
  exact xrc_u q3 rfl
/-- a season's fields, as they are read -/
theorem cShp.g {s : Nat} (h : cShp b M s) : (∀ {ρ : Type} (K : Nat → Option ρ), xgR M 43 s K = K b) ∧ (∀ {ρ : Type} (K : Nat → Option ρ), xgR M 32 s K = K (s + 1)) ∧ (∀ {ρ : Type} (K : Nat → Option ρ), xgR M 33 s K = K (s + 2)) ∧ (∀ {ρ : Type} (K : Nat → Option ρ), xgR M 34 s K = K (s + 3)) ∧ (∀ {ρ : Type} (K : Nat → Option ρ), xgR M 35 s K = K (s + 4)) ∧ (∀ {ρ : Type} (K : Nat → Option ρ), xgR M 36 s K = K (s + 5)) := by
  obtain ⟨h0, h1, h2, h3, h4, h5, h6, h7, -⟩ := h
  exact ⟨fun K => xgR_v (by rw [h1]; rfl) h2 K, fun K => xgR_v (by rw [h1]; rfl) h3 K, fun K => xgR_v (by rw [h1]; rfl) h4 K, fun K => xgR_v (by rw [h1]; rfl) h5 K, fun K => xgR_v (by rw [h1]; rfl) h6 K, fun K => xgR_v (by rw [h1]; rfl) h7 K⟩
theorem c_some {s a o : Nat} {r : Nat → Int32} (hs : Sh b M) (hT : cTold b w M T) (h : cShp b M s) (ha : dwK M a = (1, 7)) (hr : ∀ p, p < 7 → dwI M a p = r (o + p)) : m_X9_some M s a = some (whoS (tP T) r o) := by
  have hP : tP T ≤ 7 := by obtain ⟨_, _, _, h3⟩ := hT; exact h3.1
  obtain ⟨g43, -⟩ := h.g
  simp -implicitDefEqProofs only [m_X9_some, jn_u]
  refine lpx (E := fun x => x = some _) (fun f i (z : Int32) => L_X9_some_4 M s a (fun y1 => some y1) f z (Int32.ofNat i)) (tP T) (fun i z => z = itr (fun p x => x ||| (if r (o + p) ≤ 0 then 0 else bI (Int32.ofNat p))) 0 i) ?_ ?_ 1000000 0 0 (by omega) (by omega) rfl
  · intro f z e
    subst e
    simp -implicitDefEqProofs only [L_X9_some_4, ↓xgI_u, ↓xpI_u, ↓xaI_u, ↓xsI_u, ↓xrk_u, ↓xrk0_u, ↓xob_v, ↓xmb_v, ↓xth_v, ↓xth_x, ↓jn_u, ↓xlen_u, ↓xaL_u, ↓xsL_u, ↓xbl_0, ↓xbl_1, eq_self, inb_n, inb_d, Sh_PI, Sh_PL, dk_PI, dk_PL, dr_PI, dr_PL, ↓reduceIte, Int32.reduceLE, Int32.reduceLT, Int32.reduceToNatClampNeg, Nat.reduceLT, Nat.reduceLeDiff, Nat.reduceEqDiff, Nat.reduceAdd, Nat.reduceMul, g43, kd0 hs, c_persons hs hT, i_geT, if_true]
    rfl
  · intro f i z hi e hn
    subst e
    have hi7 : i < 7 := by omega
    simp -implicitDefEqProofs only [L_X9_some_4, ↓xgI_u, ↓xpI_u, ↓xaI_u, ↓xsI_u, ↓xrk_u, ↓xrk0_u, ↓xob_v, ↓xmb_v, ↓xth_v, ↓xth_x, ↓jn_u, ↓xlen_u, ↓xaL_u, ↓xsL_u, ↓xbl_0, ↓xbl_1, eq_self, inb_n, inb_d, Sh_PI, Sh_PL, dk_PI, dk_PL, dr_PI, dr_PL, ↓reduceIte, Int32.reduceLE, Int32.reduceLT, Int32.reduceToNatClampNeg, Nat.reduceLT, Nat.reduceLeDiff, Nat.reduceEqDiff, Nat.reduceAdd, Nat.reduceMul, g43, kd0 hs, c_persons hs hT, i_geF hi (by omega), if_false, ha, hi7, i_nat (show i < 2147483648 by omega), hr i hi7, i_succ]
    split
    · rename_i hc
      refine hn _ ?_
      rw [← itr_s, if_pos hc]
    · rename_i hc
      refine hn _ ?_
      rw [← itr_s, if_neg hc]; rfl
theorem c_sum {s a o : Nat} {r : Nat → Int32} (hs : Sh b M) (hT : cTold b w M T) (h : cShp b M s) (ha : dwK M a = (1, 7)) (hr : ∀ p, p < 7 → dwI M a p = r (o + p)) : m_X9_sum M s a = some (sumS (tP T) r o) := by
  have hP : tP T ≤ 7 := by obtain ⟨_, _, _, h3⟩ := hT; exact h3.1
  obtain ⟨g43, -⟩ := h.g
  simp -implicitDefEqProofs only [m_X9_sum, jn_u]
  refine lpx (E := fun x => x = some _) (fun f i (z : Int32) => L_X9_sum_4 M s a (fun y1 => some y1) f z (Int32.ofNat i)) (tP T) (fun i z => z = itr (fun p x => x + r (o + p)) 0 i) ?_ ?_ 1000000 0 0 (by omega) (by omega) rfl
  · intro f z e
    subst e
    simp -implicitDefEqProofs only [L_X9_sum_4, ↓xgI_u, ↓xpI_u, ↓xaI_u, ↓xsI_u, ↓xrk_u, ↓xrk0_u, ↓xob_v, ↓xmb_v, ↓xth_v, ↓xth_x, ↓jn_u, ↓xlen_u, ↓xaL_u, ↓xsL_u, ↓xbl_0, ↓xbl_1, eq_self, inb_n, inb_d, Sh_PI, Sh_PL, dk_PI, dk_PL, dr_PI, dr_PL, ↓reduceIte, Int32.reduceLE, Int32.reduceLT, Int32.reduceToNatClampNeg, Nat.reduceLT, Nat.reduceLeDiff, Nat.reduceEqDiff, Nat.reduceAdd, Nat.reduceMul, g43, kd0 hs, c_persons hs hT, i_geT, if_true]
    rfl
  · intro f i z hi e hn
    subst e
    have hi7 : i < 7 := by omega
    simp -implicitDefEqProofs only [L_X9_sum_4, ↓xgI_u, ↓xpI_u, ↓xaI_u, ↓xsI_u, ↓xrk_u, ↓xrk0_u, ↓xob_v, ↓xmb_v, ↓xth_v, ↓xth_x, ↓jn_u, ↓xlen_u, ↓xaL_u, ↓xsL_u, ↓xbl_0, ↓xbl_1, eq_self, inb_n, inb_d, Sh_PI, Sh_PL, dk_PI, dk_PL, dr_PI, dr_PL, ↓reduceIte, Int32.reduceLE, Int32.reduceLT, Int32.reduceToNatClampNeg, Nat.reduceLT, Nat.reduceLeDiff, Nat.reduceEqDiff, Nat.reduceAdd, Nat.reduceMul, g43, kd0 hs, c_persons hs hT, i_geF hi (by omega), if_false, ha, hi7, i_nat (show i < 2147483648 by omega), hr i hi7, i_succ]
    exact hn _ rfl
theorem c_often {s j : Nat} {r : Nat → Int32} (hs : Sh b M) (hT : cTold b w M T) (h : cSea b M s (tP T) r) (hj : j < 6) : m_X9_often M s (Int32.ofNat j) = some (sumS (tP T) r (35 + 7 * j)) := by
  have hP : tP T ≤ 7 := by obtain ⟨_, _, _, h3⟩ := hT; exact h3.1
  obtain ⟨g43, -, -, -, -, g36⟩ := h.1.g
  have hk : dwK M (s + 5) = (1, 42) := h.1.2.2.2.2.2.2.2.2.2.2.2.2
  simp -implicitDefEqProofs only [m_X9_often, jn_u]
  refine lpx (E := fun x => x = some _) (fun f i (z : Int32) => L_X9_often_4 M s (Int32.ofNat j) (fun y1 => some y1) f z (Int32.ofNat i)) (tP T) (fun i z => z = itr (fun p x => x + r (35 + 7 * j + p)) 0 i) ?_ ?_ 1000000 0 0 (by omega) (by omega) rfl
  · intro f z e
    subst e
    simp -implicitDefEqProofs only [L_X9_often_4, ↓xgI_u, ↓xpI_u, ↓xaI_u, ↓xsI_u, ↓xrk_u, ↓xrk0_u, ↓xob_v, ↓xmb_v, ↓xth_v, ↓xth_x, ↓jn_u, ↓xlen_u, ↓xaL_u, ↓xsL_u, ↓xbl_0, ↓xbl_1, eq_self, inb_n, inb_d, Sh_PI, Sh_PL, dk_PI, dk_PL, dr_PI, dr_PL, ↓reduceIte, Int32.reduceLE, Int32.reduceLT, Int32.reduceToNatClampNeg, Nat.reduceLT, Nat.reduceLeDiff, Nat.reduceEqDiff, Nat.reduceAdd, Nat.reduceMul, g43, kd0 hs, c_persons hs hT, i_geT, if_true]
    rfl
  · intro f i z hi e hn
    subst e
    have hx : 7 * j + i < 42 := by omega
    simp -implicitDefEqProofs only [L_X9_often_4, ↓xgI_u, ↓xpI_u, ↓xaI_u, ↓xsI_u, ↓xrk_u, ↓xrk0_u, ↓xob_v, ↓xmb_v, ↓xth_v, ↓xth_x, ↓jn_u, ↓xlen_u, ↓xaL_u, ↓xsL_u, ↓xbl_0, ↓xbl_1, eq_self, inb_n, inb_d, Sh_PI, Sh_PL, dk_PI, dk_PL, dr_PI, dr_PL, ↓reduceIte, Int32.reduceLE, Int32.reduceLT, Int32.reduceToNatClampNeg, Nat.reduceLT, Nat.reduceLeDiff, Nat.reduceEqDiff, Nat.reduceAdd, Nat.reduceMul, g43, g36, kd0 hs, c_persons hs hT, i_geF hi (by omega), if_false, hk, x_7, hx, i_nat (show 7 * j + i < 2147483648 by omega), h.2.2.2.2.2.1 _ hx, i_succ]
    refine hn _ ?_
    rw [← itr_s, ← Nat.add_assoc]
theorem c_two {o v1 v2 : Int32} {a ci : Nat} (h : opC o ci) (hk : dwK M a = (0, ci)) : D_Two_with M a v1 v2 = some (opS o v1 v2) := by
  unfold D_Two_with xsw
  rcases h with ⟨rfl, rfl⟩ | ⟨rfl, rfl⟩ | ⟨rfl, rfl⟩ | ⟨rfl, rfl⟩ | ⟨rfl, rfl⟩ | ⟨rfl, rfl⟩ | ⟨rfl, rfl⟩
  · simp only [hk]; rfl
  · simp only [hk]; rfl
  · simp only [hk]; rfl
  · simp only [hk, Prod.mk.injEq]
    show (if v2 = 0 then some 0 else xdiv v1 v2 (fun (v1 : Int32) => some v1)) = some (if v2 = 0 then 0 else v1 / v2)
    by_cases e : v2 = 0
    · rw [if_pos e, if_pos e]
    · rw [if_neg e, if_neg e, xdiv_u (eq_false e)]
  · simp only [hk, Prod.mk.injEq]
    show (if v2 = 0 then some 0 else xrem v1 v2 (fun (v1 : Int32) => some v1)) = some (if v2 = 0 then 0 else v1 - v1 / v2 * v2)
    by_cases e : v2 = 0
    · rw [if_pos e, if_pos e]
    · rw [if_neg e, if_neg e, xrem_u (eq_false e)]
  · simp only [hk]
    show some (if v2 < v1 then v2 else v1) = some (if v2 ≤ v1 then v2 else v1)
    by_cases e : v2 < v1
    · rw [if_pos e, if_pos (Int32.le_of_lt e)]
    · rw [if_neg e]
      by_cases e2 : v2 ≤ v1
      · rw [if_pos e2, Int32.le_antisymm e2 (Int32.not_lt.mp e)]
      · rw [if_neg e2]
  · simp only [hk]
    show some (if v1 < v2 then v2 else v1) = some (if v1 ≤ v2 then v2 else v1)
    by_cases e : v1 < v2
    · rw [if_pos e, if_pos (Int32.le_of_lt e)]
    · rw [if_neg e]
      by_cases e2 : v1 ≤ v2
      · rw [if_pos e2, Int32.le_antisymm e2 (Int32.not_lt.mp e)]
      · rw [if_neg e2]
theorem c_term {f : Nat → Int32} {fa : Nat} (hfa : dwK M fa = (1, 10)) (hf : ∀ k, k < 10 → dwI M fa k = f k) : ∀ (d a : Nat) (v : Int32), tma b w M f d a v → ∀ d', d ≤ d' + 1 → D_Term_of (m_X4_of d') M a fa = some v := by
  intro d
  induction d with
  | zero => intro a v h; exact False.elim h
  | succ d ih =>
    intro a v h d' hd
    obtain ⟨-, ⟨hk, hv⟩ | ⟨hk, k, h10, h1, hv⟩ | ⟨o, ci, x, y, v1, v2, ho, hk, hx, hy, t1, t2, hv⟩⟩ := h
    · unfold D_Term_of xsw
      simp only [hk]
      show m_X8_of M a fa = some v
      rw [hv]
      simp -implicitDefEqProofs only [m_X8_of, ↓xgI_u, ↓xpI_u, ↓xaI_u, ↓xsI_u, ↓xrk_u, ↓xrk0_u, ↓xob_v, ↓xmb_v, ↓xth_v, ↓xth_x, ↓jn_u, ↓xlen_u, ↓xaL_u, ↓xsL_u, ↓xbl_0, ↓xbl_1, eq_self, inb_n, inb_d, Sh_PI, Sh_PL, dk_PI, dk_PL, dr_PI, dr_PL, ↓reduceIte, Int32.reduceLE, Int32.reduceLT, Int32.reduceToNatClampNeg, Nat.reduceLT, Nat.reduceLeDiff, Nat.reduceEqDiff, Nat.reduceAdd, Nat.reduceMul, hk, hs14]
    · unfold D_Term_of xsw
      simp only [hk]
      show m_X6_of M a fa = some v
      rw [hv, ← hf k h10]
      simp -implicitDefEqProofs only [m_X6_of, ↓xgI_u, ↓xpI_u, ↓xaI_u, ↓xsI_u, ↓xrk_u, ↓xrk0_u, ↓xob_v, ↓xmb_v, ↓xth_v, ↓xth_x, ↓jn_u, ↓xlen_u, ↓xaL_u, ↓xsL_u, ↓xbl_0, ↓xbl_1, eq_self, inb_n, inb_d, Sh_PI, Sh_PL, dk_PI, dk_PL, dr_PI, dr_PL, ↓reduceIte, Int32.reduceLE, Int32.reduceLT, Int32.reduceToNatClampNeg, Nat.reduceLT, Nat.reduceLeDiff, Nat.reduceEqDiff, Nat.reduceAdd, Nat.reduceMul, hk, hs12, h1, hfa, h10, i_nat (show k < 2147483648 by omega)]
    · have hd1 : 1 ≤ d := by
        rcases Nat.eq_zero_or_pos d with e | e
        · subst e; exact False.elim t1
        · exact e
      obtain ⟨d'', rfl⟩ : ∃ d'', d' = d'' + 1 := ⟨d' - 1, by omega⟩
      have e : D_Term_of (m_X4_of (d'' + 1)) M a fa = F_X4_of (m_X4_of d'') M a fa := by
        unfold D_Term_of xsw
        rcases ho with ⟨-, rfl⟩ | ⟨-, rfl⟩ | ⟨-, rfl⟩ | ⟨-, rfl⟩ | ⟨-, rfl⟩ | ⟨-, rfl⟩ | ⟨-, rfl⟩ <;> (simp only [hk]; rfl)
      rw [e]
      have hh : ∀ f, f = 112 ∨ f = 113 → dwHas (dwK M a) f = true := by
        intro f hf
        rw [hk]
        rcases ho with ⟨-, rfl⟩ | ⟨-, rfl⟩ | ⟨-, rfl⟩ | ⟨-, rfl⟩ | ⟨-, rfl⟩ | ⟨-, rfl⟩ | ⟨-, rfl⟩ <;> rcases hf with rfl | rfl <;> rfl
      have g1 : ∀ {ρ : Type} (K : Nat → Option ρ), xgR M 112 a K = K x := fun K => xgR_v (hh _ (Or.inl rfl)) hx K
      have g2 : ∀ {ρ : Type} (K : Nat → Option ρ), xgR M 113 a K = K y := fun K => xgR_v (hh _ (Or.inr rfl)) hy K
      simp -implicitDefEqProofs only [F_X4_of, g1, g2, ih x v1 t1 d'' (by omega), ih y v2 t2 d'' (by omega), xob_v, c_two ho hk, hv]
def sFa (b : Nat) : Nat → Nat → Prop := fun a _ => a = b + 20
theorem sFa_f : cFree b w (sFa b) := fun a k h q => by unfold sFa at h; exact absurd (show b + 20 ≤ a ∧ a ≤ b + 42 by omega) q.2.1
theorem c_laughOf (hs : Sh b M) (hL : cLaw b w M lw) (v0 v1 v2 v3 v4 v5 v6 v7 v8 v9 : Int32) : ∃ M', m_X1_laughOf M b v0 v1 v2 v3 v4 v5 v6 v7 v8 v9 = some (clampS (lw (facS v0 v1 v2 v3 v4 v5 v6 v7 v8 v9)), M') ∧ fr (sFa b) nz 0 0 M M' := by
  have f0 : fr (sFa b) nz 0 0 M (dwPI (dwPI (dwPI (dwPI (dwPI (dwPI (dwPI (dwPI (dwPI (dwPI M (b + 20) 0 v0) (b + 20) 1 v1) (b + 20) 2 v2) (b + 20) 3 v3) (b + 20) 4 v4) (b + 20) 5 v5) (b + 20) 6 v6) (b + 20) 7 v7) (b + 20) 8 v8) (b + 20) 9 v9) := by
    have q : ∀ k, sFa b (b + 20) k ∨ dwN M ≤ b + 20 := fun k => Or.inl rfl
    exact ((((((((((fr.refl M).pI v0 (q 0)).pI v1 (q 1)).pI v2 (q 2)).pI v3 (q 3)).pI v4 (q 4)).pI v5 (q 5)).pI v6 (q 6)).pI v7 (q 7)).pI v8 (q 8)).pI v9 (q 9)
  refine ⟨_, ?_, f0⟩
  obtain ⟨-, l, d, h1, h2, h3⟩ := hL.fr hs f0 sFa_f nz_f (fun q => q)
  have hf : ∀ k, k < 10 → dwI (dwPI (dwPI (dwPI (dwPI (dwPI (dwPI (dwPI (dwPI (dwPI (dwPI M (b + 20) 0 v0) (b + 20) 1 v1) (b + 20) 2 v2) (b + 20) 3 v3) (b + 20) 4 v4) (b + 20) 5 v5) (b + 20) 6 v6) (b + 20) 7 v7) (b + 20) 8 v8) (b + 20) 9 v9) (b + 20) k = facS v0 v1 v2 v3 v4 v5 v6 v7 v8 v9 k := by
    intro k hk
    rcases (by omega : k = 0 ∨ k = 1 ∨ k = 2 ∨ k = 3 ∨ k = 4 ∨ k = 5 ∨ k = 6 ∨ k = 7 ∨ k = 8 ∨ k = 9) with rfl | rfl | rfl | rfl | rfl | rfl | rfl | rfl | rfl | rfl <;> simp [di_PI, facS]
  have r1 := c_term (M := (dwPI (dwPI (dwPI (dwPI (dwPI (dwPI (dwPI (dwPI (dwPI (dwPI M (b + 20) 0 v0) (b + 20) 1 v1) (b + 20) 2 v2) (b + 20) 3 v3) (b + 20) 4 v4) (b + 20) 5 v5) (b + 20) 6 v6) (b + 20) 7 v7) (b + 20) 8 v8) (b + 20) 9 v9)) (kd20 (hs.fr f0 nz_p)) hf d l _ (h3 _) 200 (by omega)
  have g1 : ∀ {ρ : Type} (K : Nat → Option ρ), xgR (dwPI (dwPI (dwPI (dwPI (dwPI (dwPI (dwPI (dwPI (dwPI (dwPI M (b + 20) 0 v0) (b + 20) 1 v1) (b + 20) 2 v2) (b + 20) 3 v3) (b + 20) 4 v4) (b + 20) 5 v5) (b + 20) 6 v6) (b + 20) 7 v7) (b + 20) 8 v8) (b + 20) 9 v9) 1 b K = K l := fun K => xgR_v (by rw [kd0 (hs.fr f0 nz_p)]; rfl) h2 K
  simp -implicitDefEqProofs only [m_X1_laughOf, ↓gp0_2, ↓gp0_3, ↓gp0_4, ↓gp0_5, ↓gp0_6, ↓gp0_7, ↓gp0_8, ↓gp0_9, ↓gp0_10, ↓gp0_18, ↓gp0_19, ↓gp0_20, ↓gp0_22, ↓gp23_43, ↓gp23_32, ↓gp23_33, ↓gp23_34, ↓gp23_35, ↓gp23_36, ↓gp29_43, ↓gp29_32, ↓gp29_33, ↓gp29_34, ↓gp29_35, ↓gp29_36, ↓gp54_53, ↓gp54_54, ↓gp54_55, ↓gp54_56, ↓gp54_57, ↓gp54_58, ↓gp54_59, ↓gp54_60, ↓gp54_61, ↓gp54_62, ↓gp54_65, ↓gp54_66, ↓gp54_67, ↓gp54_68, ↓gp54_69, ↓gp54_70, ↓gp54_71, ↓gp54_73, ↓gp54_74, ↓gp54_75, ↓gp54_76, ↓gp54_84, ↓gp54_85, ↓gp54_87, ↓gp54_88, ↓xr59, kr59, ↓xr67, kr67, ↓xr75, kr75, ↓xr82, kr82, ↓xr89, kr89, ↓xr102, kr102, ↓xr115, kr115, ↓xr276, kr276, ↓xr437, kr437, ↓xr444, kr444, ↓xr453, kr453, ↓xr536, kr536, ↓xr553, kr553, hs0, hw0, hs1, hw1, hs2, hw2, hs3, hw3, hs4, hw4, hs5, hw5, hs6, hw6, hs7, hw7, hs8, hw8, hs9, hw9, hs10, hw10, hs11, hw11, hs12, hw12, hs13, hw13, hs14, hw14, hs15, hw15, hs16, hw16, hs17, hw17, hs18, hw18, hs19, hw19, hs20, hw20, hs21, hw21, hs22, hw22, hs23, hw23, hs25, hw25, hs26, hw26, hs27, hw27, hs28, hw28, hs9b, hw9b, hs10b, hw10b, kd0, kd20, kd21, kd22, kd23, kd24, kd25, kd26, kd27, kd28, kd29, kd30, kd31, kd32, kd33, kd34, kd35, kd36, kd37, kd38, kd39, kd40, kd41, kd42, kd54, kd55, kd56, kd57, kd58, kd59, kd67, kd75, kd82, kd89, kd102, kd115, kd276, kd437, kd444, kd451, kd452, kd453, kd534, kd535, kd536, kd553, kd557, kd558, kd559, kd560, kd561, ↓xgI_u, ↓xpI_u, ↓xaI_u, ↓xsI_u, ↓xrk_u, ↓xrk0_u, ↓xob_v, ↓xmb_v, ↓xth_v, ↓xth_x, ↓jn_u, ↓xlen_u, ↓xaL_u, ↓xsL_u, ↓xbl_0, ↓xbl_1, eq_self, inb_n, inb_d, Sh_PI, Sh_PL, dk_PI, dk_PL, dr_PI, dr_PL, ↓reduceIte, Int32.reduceLE, Int32.reduceLT, Int32.reduceToNatClampNeg, Nat.reduceLT, Nat.reduceLeDiff, Nat.reduceEqDiff, Nat.reduceAdd, Nat.reduceMul, hs, g1, r1, clamp_eq]
theorem c_laughBy {s j p : Nat} {t g m : Int32} {r : Nat → Int32} (h : cEnv b w M T lw) (hS : cSea b M s (tP T) r) (hj : j < tJ T) (hp : p < tP T) : ∃ M', m_X9_laughBy M s (Int32.ofNat j) (Int32.ofNat p) m t g = some (laughS T lw r j p t g m, M') ∧ fr (sFa b) nz 0 0 M M' := by
  obtain ⟨hs, hT, hL⟩ := h
  obtain ⟨d, g0, hd, hO⟩ := c_told hs hT
  have o1 := hO.1
  have o2 := hO.2.1
  have hj6 : j < 6 := by omega
  have hp7 : p < 7 := by omega
  obtain ⟨q, q1, q2, q3, q4, -⟩ := c_personOf hs hT hp
  obtain ⟨e, e1, e2, e3, e4, -⟩ := c_jokeOf hs hT hj
  obtain ⟨x, -, x1, x2, x3⟩ := hd.2.2.2.2.1
  have gx : ∀ {ρ : Type} (K : Nat → Option ρ), xgR M 25 d K = K x := fun K => xgR_v (by rw [hd.2.1]; rfl) x1 K
  obtain ⟨g43, g32, g33, g34, g35, g36⟩ := hS.1.g
  obtain ⟨-, k0, -, -, -, -, -, -, k1, k2, k3, k4, k5⟩ := hS.1
  obtain ⟨r1, r2, r3, r4, r5, r6, r7, r8⟩ := hS.2
  have hx : 7 * j + p < 42 := by omega
  have hw := c_some (r := r) (o := 0) hs hT hS.1 k1 (fun p hp => by rw [Nat.zero_add]; exact r1 p hp)
  have hb := c_bits (set7_and (set7_near (p := p) hO) (set7_who (r := r) (o := 0) o1))
  obtain ⟨M', u1, f1⟩ := c_laughOf hs hL (tjo T j 1) (apartS T j t) (r (35 + 7 * j + p) + m) (sumS (tP T) r (35 + 7 * j) + m) (tpe T p 0) g (onesS (nearS T p &&& whoS (tP T) r 0)) (r (7 + p)) (r 78) (Int32.ofNat p)
  refine ⟨M', ?_, f1⟩
  unfold apartS at u1
  rw [Nat.add_assoc 35] at u1
  simp -implicitDefEqProofs only [m_X9_laughBy, m_X15_apart, ↓xgI_u, ↓xpI_u, ↓xaI_u, ↓xsI_u, ↓xrk_u, ↓xrk0_u, ↓xob_v, ↓xmb_v, ↓xth_v, ↓xth_x, ↓jn_u, ↓xlen_u, ↓xaL_u, ↓xsL_u, ↓xbl_0, ↓xbl_1, eq_self, inb_n, inb_d, Sh_PI, Sh_PL, dk_PI, dk_PL, dr_PI, dr_PL, ↓reduceIte, Int32.reduceLE, Int32.reduceLT, Int32.reduceToNatClampNeg, Nat.reduceLT, Nat.reduceLeDiff, Nat.reduceEqDiff, Nat.reduceAdd, Nat.reduceMul, g43, g0, gx, x2, hp7, i_nat (show p < 2147483648 by omega), x3 p hp7, g32, k0, hw, hb, kd0 hs, e1, e2, e3, e4, hs7, apart_eq, g36, k5, x_7, hx, i_nat (show 7 * j + p < 2147483648 by omega), r5 _ hx, c_often hs hT hS hj6, q1, q2, q3, hs6, g33, k2, r2 p hp7, hs2, r8, u1]
  unfold laughS apartS
  rw [Nat.add_assoc 35]
theorem c_laugh {s j p : Nat} {r : Nat → Int32} (h : cEnv b w M T lw) (hS : cSea b M s (tP T) r) (hj : j < tJ T) (hp : p < tP T) : ∃ M', m_X9_laugh M s (Int32.ofNat j) (Int32.ofNat p) = some (lghS T lw r j p, M') ∧ fr (sFa b) nz 0 0 M M' := by
  obtain ⟨d, g0, hd, hO⟩ := c_told h.1 h.2.1
  have o1 := hO.1
  have hp7 : p < 7 := by omega
  obtain ⟨q, q1, q2, q3, q4, -⟩ := c_personOf h.1 h.2.1 hp
  obtain ⟨g43, g32, -⟩ := hS.1.g
  obtain ⟨-, k0, -, -, -, -, -, -, k1, -⟩ := hS.1
  obtain ⟨M', u1, f1⟩ := c_laughBy (t := tpe T p 1) (g := r p) (m := 0) h hS hj hp
  refine ⟨M', ?_, f1⟩
  simp -implicitDefEqProofs only [m_X9_laugh, ↓xgI_u, ↓xpI_u, ↓xaI_u, ↓xsI_u, ↓xrk_u, ↓xrk0_u, ↓xob_v, ↓xmb_v, ↓xth_v, ↓xth_x, ↓jn_u, ↓xlen_u, ↓xaL_u, ↓xsL_u, ↓xbl_0, ↓xbl_1, eq_self, inb_n, inb_d, Sh_PI, Sh_PL, dk_PI, dk_PL, dr_PI, dr_PL, ↓reduceIte, Int32.reduceLE, Int32.reduceLT, Int32.reduceToNatClampNeg, Nat.reduceLT, Nat.reduceLeDiff, Nat.reduceEqDiff, Nat.reduceAdd, Nat.reduceMul, g43, kd0 h.1, q1, q2, hs6, q4, g32, k1, hp7, i_nat (show p < 2147483648 by omega), hS.2.1 p hp7, k0, u1]
  rfl
theorem c_water {s j p : Nat} {r : Nat → Int32} (h : cEnv b w M T lw) (hS : cSea b M s (tP T) r) (hj : j < tJ T) (hp : p < tP T) : ∃ M', m_X9_water M s (Int32.ofNat j) (Int32.ofNat p) = some (watS T lw r j p, M') ∧ fr (sFa b) nz 0 0 M M' := by
  obtain ⟨M', u1, f1⟩ := c_laugh h hS hj hp
  have h' := h.fr f1 sFa_f
  obtain ⟨q, q1, q2, q3, q4, -⟩ := c_personOf h'.1 h'.2.1 hp
  have hk : dwK M' s = (0, 2) := (f1.k (by have := hS.1.1; omega)).trans hS.1.2.1
  have g43 : ∀ {ρ : Type} (K : Nat → Option ρ), xgR M' 43 s K = K b := (hS.1.fr f1 (fun _ q => q)).g.1
  refine ⟨M', ?_, f1⟩
  simp -implicitDefEqProofs only [m_X9_water, ↓xgI_u, ↓xpI_u, ↓xaI_u, ↓xsI_u, ↓xrk_u, ↓xrk0_u, ↓xob_v, ↓xmb_v, ↓xth_v, ↓xth_x, ↓jn_u, ↓xlen_u, ↓xaL_u, ↓xsL_u, ↓xbl_0, ↓xbl_1, eq_self, inb_n, inb_d, Sh_PI, Sh_PL, dk_PI, dk_PL, dr_PI, dr_PL, ↓reduceIte, Int32.reduceLE, Int32.reduceLT, Int32.reduceToNatClampNeg, Nat.reduceLT, Nat.reduceLeDiff, Nat.reduceEqDiff, Nat.reduceAdd, Nat.reduceMul, hS.1.2.1, u1, g43, kd0 h'.1, q1, q2, hs6, q3]
  rfl
end COMP
