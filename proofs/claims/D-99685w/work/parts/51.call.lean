/-! reach: one street further, on and on -/
theorem near_n {T : dvT} (hO : tOK T) (p : Nat) : ∃ m, m < 2 ^ tP T ∧ nearS T p = Int32.ofNat m := by
  have o1 := hO.1
  have : ∀ n, n ≤ tS T → ∃ m, m < 2 ^ tP T ∧ itr (fun e x => x ||| (if tst T e 0 = Int32.ofNat p then bI (tst T e 1) else if tst T e 1 = Int32.ofNat p then bI (tst T e 0) else 0)) (0 : Int32) n = Int32.ofNat m := by
    intro n
    induction n with
    | zero => intro _; exact ⟨0, Nat.two_pow_pos _, rfl⟩
    | succ n ih =>
      intro hn
      obtain ⟨m, hm, e⟩ := ih (by omega)
      obtain ⟨a, c, ha, hc, -, e0, e1⟩ := hO.2.2.2.2.2.1 n (by omega)
      have h2 : ∀ q, q < tP T → 2 ^ q < 2 ^ tP T := fun q hq => Nat.pow_lt_pow_right (by omega) hq
      rw [← itr_s, e, e0, e1]
      by_cases h0 : Int32.ofNat a = Int32.ofNat p
      · rw [if_pos h0, bI_n c (by omega), i_or]
        exact ⟨_, Nat.or_lt_two_pow hm (h2 c hc), rfl⟩
      · rw [if_neg h0]
        by_cases h1 : Int32.ofNat c = Int32.ofNat p
        · rw [if_pos h1, bI_n a (by omega), i_or]
          exact ⟨_, Nat.or_lt_two_pow hm (h2 a ha), rfl⟩
        · rw [if_neg h1, show (0 : Int32) = Int32.ofNat 0 from rfl, i_or, Nat.or_zero]
          exact ⟨m, hm, rfl⟩
  exact this _ (Nat.le_refl _)
def nrN (T : dvT) (p : Nat) : Nat := (nearS T p).toNatClampNeg
theorem nrN_e {T : dvT} (hO : tOK T) (p : Nat) : nearS T p = Int32.ofNat (nrN T p) ∧ nrN T p < 2 ^ tP T := by
  obtain ⟨m, hm, e⟩ := near_n hO p
  have := p2_le hO.1
  unfold nrN
  rw [e, i_nat (by omega)]
  exact ⟨rfl, hm⟩
def rnN (T : dvT) (a n : Nat) : Nat := itr (fun p s => s ||| (if a.testBit p = true then nrN T p else 0)) a n
theorem rnN_b (T : dvT) (a i : Nat) : ∀ n, (rnN T a n).testBit i = true ↔ (a.testBit i = true ∨ ∃ p, p < n ∧ a.testBit p = true ∧ (nrN T p).testBit i = true) := by
  intro n
  induction n with
  | zero => exact ⟨fun h => Or.inl h, fun h => h.elim id (fun ⟨p, hp, _⟩ => by omega)⟩
  | succ n ih =>
    show (rnN T a n ||| (if a.testBit n = true then nrN T n else 0)).testBit i = true ↔ _
    rw [Nat.testBit_or, Bool.or_eq_true, ih]
    constructor
    · rintro ((h | ⟨p, hp, h1, h2⟩) | h)
      · exact Or.inl h
      · exact Or.inr ⟨p, by omega, h1, h2⟩
      · by_cases q : a.testBit n = true
        · rw [if_pos q] at h; exact Or.inr ⟨n, by omega, q, h⟩
        · rw [if_neg q, Nat.zero_testBit] at h; exact Bool.noConfusion h
    · rintro (h | ⟨p, hp, h1, h2⟩)
      · exact Or.inl (Or.inl h)
      · by_cases q : p = n
        · subst q; right; rw [if_pos h1]; exact h2
        · exact Or.inl (Or.inr ⟨p, by omega, h1, h2⟩)
theorem rnN_lt {T : dvT} (hO : tOK T) {a : Nat} (ha : a < 2 ^ tP T) : ∀ n, rnN T a n < 2 ^ tP T := by
  intro n
  induction n with
  | zero => exact ha
  | succ n ih =>
    show rnN T a n ||| (if a.testBit n = true then nrN T n else 0) < _
    refine Nat.or_lt_two_pow ih ?_
    split
    · exact (nrN_e hO n).2
    · exact Nat.two_pow_pos _
theorem has_ofN {a p : Nat} (ha : a < 128) (hp : p < 7) : ((Int32.ofNat a >>> (Int32.ofNat p &&& 31)) &&& 1 = 1) ↔ a.testBit p = true := has_n a ha p hp
theorem rnd_n {T : dvT} (hO : tOK T) {a : Nat} (ha : a < 2 ^ tP T) : rndS T (Int32.ofNat a) = Int32.ofNat (rnN T a (tP T)) := by
  have o1 := hO.1
  have h128 := p2_le o1
  have : ∀ n, n ≤ tP T → itr (fun p s => s ||| (if (Int32.ofNat a >>> (Int32.ofNat p &&& 31)) &&& 1 = 1 then nearS T p else 0)) (Int32.ofNat a) n = Int32.ofNat (rnN T a n) := by
    intro n
    induction n with
    | zero => intro _; rfl
    | succ n ih =>
      intro hn
      show _ ||| _ = Int32.ofNat (rnN T a n ||| _)
      rw [ih (by omega), ← i_or]
      congr 1
      by_cases q : a.testBit n = true
      · rw [if_pos ((has_ofN (by omega) (by omega)).mpr q), if_pos q]; exact (nrN_e hO n).1
      · rw [if_neg (fun z => q ((has_ofN (by omega) (by omega)).mp z)), if_neg q]; rfl
  exact this _ (Nat.le_refl _)
/-- a is within c -/
def sub (a c : Nat) : Prop := ∀ i, a.testBit i = true → c.testBit i = true
theorem sub_r (T : dvT) (a : Nat) : sub a (rnN T a (tP T)) := fun i h => (rnN_b T a i _).mpr (Or.inl h)
theorem sub_m {T : dvT} {a c : Nat} (h : sub a c) : sub (rnN T a (tP T)) (rnN T c (tP T)) := fun i hi => by
  rw [rnN_b] at hi ⊢
  rcases hi with hi | ⟨p, hp, h1, h2⟩
  · exact Or.inl (h i hi)
  · exact Or.inr ⟨p, hp, h p h1, h2⟩
theorem sub_a {a c : Nat} (h1 : sub a c) (h2 : sub c a) : a = c := Nat.eq_of_testBit_eq fun i => by
  have p1 := h1 i
  have p2 := h2 i
  cases ha : a.testBit i <;> cases hc : c.testBit i <;> simp_all
theorem sub_o {a c : Nat} (h : sub a c) : c ||| a = c := sub_a (fun i hi => by
  rw [Nat.testBit_or, Bool.or_eq_true] at hi
  exact hi.elim id (h i)) (fun i hi => by rw [Nat.testBit_or, hi]; rfl)
theorem rn_o (T : dvT) (a c : Nat) : rnN T (a ||| c) (tP T) = rnN T a (tP T) ||| rnN T c (tP T) := by
  refine sub_a (fun i hi => ?_) (fun i hi => ?_)
  · rw [Nat.testBit_or, Bool.or_eq_true, rnN_b, rnN_b]
    rw [rnN_b, Nat.testBit_or, Bool.or_eq_true] at hi
    rcases hi with (hi | hi) | ⟨p, hp, h1, h2⟩
    · exact Or.inl (Or.inl hi)
    · exact Or.inr (Or.inl hi)
    · rw [Nat.testBit_or, Bool.or_eq_true] at h1
      exact h1.elim (fun q => Or.inl (Or.inr ⟨p, hp, q, h2⟩)) (fun q => Or.inr (Or.inr ⟨p, hp, q, h2⟩))
  · rw [Nat.testBit_or, Bool.or_eq_true] at hi
    rcases hi with hi | hi
    · exact sub_m (fun i h => by rw [Nat.testBit_or, h]; rfl) i hi
    · exact sub_m (fun i h => by rw [Nat.testBit_or, h, Bool.or_true]) i hi
def pop (a n : Nat) : Nat := itr (fun i s => s + (if a.testBit i = true then 1 else 0)) 0 n
theorem pop_le (a : Nat) : ∀ n, pop a n ≤ n := by
  intro n
  induction n with
  | zero => exact Nat.le_refl _
  | succ n ih =>
    show pop a n + _ ≤ _
    split <;> omega
theorem pop_s {a c : Nat} (h : sub a c) : ∀ n, pop a n ≤ pop c n ∧ ((∃ i, i < n ∧ a.testBit i = false ∧ c.testBit i = true) → pop a n < pop c n) := by
  intro n
  induction n with
  | zero => exact ⟨Nat.le_refl _, fun ⟨i, hi, _⟩ => by omega⟩
  | succ n ih =>
    show pop a n + _ ≤ pop c n + _ ∧ (_ → pop a n + _ < pop c n + _)
    have hn := h n
    constructor
    · by_cases q : a.testBit n = true
      · rw [if_pos q, if_pos (hn q)]; omega
      · rw [if_neg q]; omega
    · rintro ⟨i, hi, h1, h2⟩
      by_cases q : i = n
      · subst q; rw [if_neg (by rw [h1]; decide), if_pos h2]; omega
      · have := ih.2 ⟨i, by omega, h1, h2⟩
        by_cases q : a.testBit n = true
        · rw [if_pos q, if_pos (hn q)]; omega
        · rw [if_neg q]; omega
theorem pop_lt {a c n : Nat} (h : sub a c) (hc : c < 2 ^ n) (hne : a ≠ c) : pop a n < pop c n := by
  refine (pop_s h n).2 ?_
  refine Classical.byContradiction fun q => hne (sub_a h fun i hi => ?_)
  refine Classical.byContradiction fun q2 => q ⟨i, ?_, ?_, hi⟩
  · refine Classical.byContradiction fun q3 => ?_
    rw [Nat.testBit_lt_two_pow (Nat.lt_of_lt_of_le hc (Nat.pow_le_pow_right (n := 2) (by omega) (by omega)))] at hi
    exact Bool.noConfusion hi
  · exact Bool.not_eq_true _ ▸ q2
def rchN (T : dvT) (p n : Nat) : Nat := itr (fun _ a => rnN T a (tP T)) (2 ^ p) n
theorem rchN_e (T : dvT) (p n : Nat) : rchN T p (n + 1) = rnN T (rchN T p n) (tP T) := rfl
theorem rch_lt {T : dvT} (hO : tOK T) {p : Nat} (hp : p < tP T) : ∀ n, rchN T p n < 2 ^ tP T := by
  intro n
  induction n with
  | zero => exact Nat.pow_lt_pow_right (by omega) hp
  | succ n ih => exact rnN_lt hO ih _
theorem rch_st {T : dvT} {p n : Nat} (h : rchN T p (n + 1) = rchN T p n) : ∀ m, n ≤ m → rchN T p m = rchN T p n := by
  intro m hm
  induction m with
  | zero => rw [show n = 0 by omega]
  | succ m ih =>
    by_cases e : n = m + 1
    · rw [e]
    · rw [rchN_e, ih (by omega), ← rchN_e, h]
theorem rch_stop {T : dvT} (hO : tOK T) {p : Nat} (hp : p < tP T) : ∃ n, n < tP T ∧ rchN T p (n + 1) = rchN T p n := by
  refine Classical.byContradiction fun q => ?_
  have h1 : ∀ n, n ≤ tP T → n + 1 ≤ pop (rchN T p n) (tP T) := by
    intro n
    induction n with
    | zero =>
      intro _
      have h := (pop_s (a := 0) (c := 2 ^ p) (fun i h => by rw [Nat.zero_testBit] at h; exact Bool.noConfusion h) (tP T)).2 ⟨p, hp, Nat.zero_testBit _, by rw [Nat.testBit_two_pow]; simp⟩
      show 1 ≤ pop (2 ^ p) (tP T)
      omega
    | succ n ih =>
      intro hn
      have := ih (by omega)
      have h2 := pop_lt (sub_r T (rchN T p n)) (rnN_lt hO (rch_lt hO hp n) _) (fun e => q ⟨n, by omega, e.symm⟩)
      rw [← rchN_e] at h2
      omega
  have h2 := h1 (tP T) (Nat.le_refl _)
  have h3 := pop_le (rchN T p (tP T)) (tP T)
  omega
theorem rch_end {T : dvT} (hO : tOK T) {p : Nat} (hp : p < tP T) : ∀ m, tP T - 1 ≤ m → rchN T p m = rchN T p (tP T) := by
  intro m hm
  obtain ⟨n, hn, e⟩ := rch_stop hO hp
  rw [rch_st e m (by omega), rch_st e (tP T) (by omega)]
theorem fsN_all {f : Nat → Bool} : ∀ m, (∀ k, k < m → f k = false) → fsN f m = m := by
  intro m
  induction m with
  | zero => intro _; rfl
  | succ m ih => intro h; exact fsN_n (ih fun k hk => h k (by omega)) (h m (by omega))
theorem fsN_lt {f : Nat → Bool} : ∀ m, fsN f m < m → f (fsN f m) = true ∧ fsN f (fsN f m) = fsN f m := by
  intro m
  induction m with
  | zero => intro h; omega
  | succ m ih =>
    intro h
    rw [fsN_e] at h ⊢
    by_cases q : fsN f m = m ∧ f m = false
    · rw [if_pos q] at h; omega
    · rw [if_neg q] at h ⊢
      by_cases e : fsN f m = m
      · rw [e]
        refine ⟨?_, e⟩
        cases hf : f m
        · exact absurd ⟨e, hf⟩ q
        · rfl
      · exact ih (by have := fsN_le (f := f) m; omega)
theorem fsN_b {f : Nat → Bool} {m k : Nat} (h : fsN f m = m) (hk : k < m) : f k = false := by
  cases hf : f k
  · rfl
  · have h2 : fsN f k = k := by
      have hle := fsN_le (f := f) k
      by_cases e : fsN f k = k
      · exact e
      · have := fsN_lt (f := f) k (by omega)
        have h3 := fsN_s this.2 this.1 m (by omega)
        omega
    have := fsN_s h2 hf m (by omega)
    omega
section CALL
variable {b : Nat} {w : Nat → Nat} {M : dwSt} {A : dvA}
theorem bit_n {p : Nat} (h : p < 7) : (1 : Int32) <<< (Int32.ofNat p &&& 31) = Int32.ofNat (2 ^ p) := bI_n p h
/-! way -/
def wayB (A : dvA) (p q n : Nat) : Bool := (rchN (aT A) p n).testBit q
def wayV (A : dvA) (p q : Nat) : Int32 := if fsN (wayB A p q) (tP (aT A)) = tP (aT A) then -1 else Int32.ofNat (fsN (wayB A p q) (tP (aT A)))
theorem way_7 {A : dvA} {p q : Nat} (hO : tOK (aT A)) (hp : p < tP (aT A)) : (if fsN (wayB A p q) 7 = 7 then (-1 : Int32) else Int32.ofNat (fsN (wayB A p q) 7)) = wayV A p q := by
  have o1 := hO.1
  unfold wayV
  by_cases h : fsN (wayB A p q) (tP (aT A)) = tP (aT A)
  · have h7 : fsN (wayB A p q) 7 = 7 := fsN_all 7 fun k hk => by
      by_cases e : k < tP (aT A)
      · exact fsN_b h e
      · unfold wayB
        rw [rch_end hO hp k (by omega), ← rch_end hO hp (tP (aT A) - 1) (Nat.le_refl _)]
        exact fsN_b (f := wayB A p q) h (show tP (aT A) - 1 < tP (aT A) by omega)
    rw [if_pos h7, if_pos h]
  · have hl : fsN (wayB A p q) (tP (aT A)) < tP (aT A) := by have := fsN_le (f := wayB A p q) (tP (aT A)); omega
    obtain ⟨h1, h2⟩ := fsN_lt _ hl
    rw [fsN_s h2 h1 7 (by omega), if_neg (by omega), if_neg h]
theorem C_way {p q : Nat} (hC : CInv b w M A) (hp : p < tP (aT A)) (hq : q < tP (aT A)) : ∃ M1, m_X1_way M b (Int32.ofNat p) (Int32.ofNat q) = some (.inl (wayV A p q), M1) ∧ fr (cSc b) nz 0 0 M M1 := by
  have hO := hC.1.ok.1
  have o1 := hO.1
  have h128 := p2_le o1
  have hs := hC.1.1
  obtain ⟨d, g0, hd, -⟩ := c_told hs hC.1.2.1
  refine ⟨M, ?_, fr.refl M⟩
  simp -implicitDefEqProofs only [m_X1_way, ↓xgI_u, ↓xpI_u, ↓xaI_u, ↓xsI_u, ↓xrk_u, ↓xrk0_u, ↓xob_v, ↓xmb_v, ↓xth_v, ↓xth_x, ↓jn_u, ↓xlen_u, ↓xaL_u, ↓xsL_u, ↓xbl_0, ↓xbl_1, eq_self, inb_n, inb_d, Sh_PI, Sh_PL, dk_PI, dk_PL, dr_PI, dr_PL, ↓reduceIte, Int32.reduceLE, Int32.reduceLT, Int32.reduceToNatClampNeg, Nat.reduceLT, Nat.reduceLeDiff, Nat.reduceEqDiff, Nat.reduceAdd, Nat.reduceMul, kd0 hs, c_needPT hC hp, c_needPT hC hq, bit_n (show p < 7 by omega)]
  refine lpx (E := fun x => x = some (.inl (wayV A p q), M)) (fun f i (x : Int32) => L_X1_way_17 M b (Int32.ofNat q) (fun (y5 : Int32) => (some (.inl y5, M) : dwR9 Int32)) (fun (_u : Unit) => (some (.inl (-1), M) : dwR9 Int32)) f x (Int32.ofNat i)) 7 (fun i x => x = Int32.ofNat (rchN (aT A) p i) ∧ fsN (wayB A p q) i = i) ?_ ?_ 1000000 0 (Int32.ofNat (2 ^ p)) (by omega) (by omega) ⟨rfl, rfl⟩
  · intro f x ⟨e, h⟩
    show L_X1_way_17 M b (Int32.ofNat q) _ _ (f + 1) x (Int32.ofNat 7) = _
    rw [L_X1_way_17, if_pos (by decide), ← way_7 hO hp, if_pos h]
  · intro f i x hi ⟨e, h⟩ hn
    have h7 := i_geF hi (by omega)
    have hl := rch_lt hO hp i
    show L_X1_way_17 M b (Int32.ofNat q) _ _ (f + 1) x (Int32.ofNat i) = _
    rw [L_X1_way_17, if_neg (show ¬ (7 : Int32) ≤ Int32.ofNat i from fun q => (h7 ▸ q : False)), e]
    unfold m_X1_has
    by_cases hc : (rchN (aT A) p i).testBit q = true
    · have hh := (has_ofN (a := rchN (aT A) p i) (by omega) (show q < 7 by omega)).mpr hc
      simp only [hh, if_true, ↓xgI_u, ↓xpI_u, ↓xaI_u, ↓xsI_u, ↓xrk_u, ↓xrk0_u, ↓xob_v, ↓xmb_v, ↓xth_v, ↓xth_x, ↓jn_u, ↓xlen_u, ↓xaL_u, ↓xsL_u, ↓xbl_0, ↓xbl_1, eq_self, inb_n, inb_d, Sh_PI, Sh_PL, dk_PI, dk_PL, dr_PI, dr_PL, ↓reduceIte, Int32.reduceLE, Int32.reduceLT, Int32.reduceToNatClampNeg, Nat.reduceLT, Nat.reduceLeDiff, Nat.reduceEqDiff, Nat.reduceAdd, Nat.reduceMul, e10, if_false]
      rw [← way_7 hO hp, fsN_s h (show wayB A p q i = true from hc) 7 (by omega), if_neg (by omega)]
    · have hh : ¬ (Int32.ofNat (rchN (aT A) p i) >>> (Int32.ofNat q &&& 31)) &&& 1 = 1 := fun z => hc ((has_ofN (by omega) (show q < 7 by omega)).mp z)
      simp only [hh, if_false, ↓xgI_u, ↓xpI_u, ↓xaI_u, ↓xsI_u, ↓xrk_u, ↓xrk0_u, ↓xob_v, ↓xmb_v, ↓xth_v, ↓xth_x, ↓jn_u, ↓xlen_u, ↓xaL_u, ↓xsL_u, ↓xbl_0, ↓xbl_1, eq_self, inb_n, inb_d, Sh_PI, Sh_PL, dk_PI, dk_PL, dr_PI, dr_PL, ↓reduceIte, Int32.reduceLE, Int32.reduceLT, Int32.reduceToNatClampNeg, Nat.reduceLT, Nat.reduceLeDiff, Nat.reduceEqDiff, Nat.reduceAdd, Nat.reduceMul, g0, hd.2.1, c_round hC hd, rnd_n hO hl, i_succ]
      exact hn _ ⟨by rw [rchN_e], fsN_n h (by unfold wayB; exact Bool.not_eq_true _ ▸ hc)⟩
theorem T_way {p q : Nat} (hT : TInv b M A) (hp : p < tP (aT A)) (hq : q < tP (aT A)) : ∃ M1, m_X10_way M (b + 54) (Int32.ofNat p) (Int32.ofNat q) = some (wayV A p q, M1) ∧ fr (tSc b) nz 0 0 (dwPI M (b + 54) 44 0) M1 := by
  have hO := hT.1.ok.1
  have o1 := hO.1
  have h128 := p2_le o1
  obtain ⟨hT0, fz, z0⟩ := tinv_z hT
  have hs0 := hT0.1.1
  refine ⟨_, ?_, fr.refl _⟩
  simp -implicitDefEqProofs only [m_X10_way, ↓gp0_2, ↓gp0_3, ↓gp0_4, ↓gp0_5, ↓gp0_6, ↓gp0_7, ↓gp0_8, ↓gp0_9, ↓gp0_10, ↓gp0_18, ↓gp0_19, ↓gp0_20, ↓gp0_22, ↓gp23_43, ↓gp23_32, ↓gp23_33, ↓gp23_34, ↓gp23_35, ↓gp23_36, ↓gp29_43, ↓gp29_32, ↓gp29_33, ↓gp29_34, ↓gp29_35, ↓gp29_36, ↓gp54_53, ↓gp54_54, ↓gp54_55, ↓gp54_56, ↓gp54_57, ↓gp54_58, ↓gp54_59, ↓gp54_60, ↓gp54_61, ↓gp54_62, ↓gp54_65, ↓gp54_66, ↓gp54_67, ↓gp54_68, ↓gp54_69, ↓gp54_70, ↓gp54_71, ↓gp54_73, ↓gp54_74, ↓gp54_75, ↓gp54_76, ↓gp54_84, ↓gp54_85, ↓gp54_87, ↓gp54_88, ↓xr59, kr59, ↓xr67, kr67, ↓xr75, kr75, ↓xr82, kr82, ↓xr89, kr89, ↓xr102, kr102, ↓xr115, kr115, ↓xr276, kr276, ↓xr437, kr437, ↓xr444, kr444, ↓xr453, kr453, ↓xr536, kr536, ↓xr553, kr553, hs0, hw0, hs1, hw1, hs2, hw2, hs3, hw3, hs4, hw4, hs5, hw5, hs6, hw6, hs7, hw7, hs8, hw8, hs9, hw9, hs10, hw10, hs11, hw11, hs12, hw12, hs13, hw13, hs14, hw14, hs15, hw15, hs16, hw16, hs17, hw17, hs18, hw18, hs19, hw19, hs20, hw20, hs21, hw21, hs22, hw22, hs23, hw23, hs25, hw25, hs26, hw26, hs27, hw27, hs28, hw28, hs9b, hw9b, hs10b, hw10b, kd0, kd20, kd21, kd22, kd23, kd24, kd25, kd26, kd27, kd28, kd29, kd30, kd31, kd32, kd33, kd34, kd35, kd36, kd37, kd38, kd39, kd40, kd41, kd42, kd54, kd55, kd56, kd57, kd58, kd59, kd67, kd75, kd82, kd89, kd102, kd115, kd276, kd437, kd444, kd451, kd452, kd453, kd534, kd535, kd536, kd553, kd557, kd558, kd559, kd560, kd561, ↓xgI_u, ↓xpI_u, ↓xaI_u, ↓xsI_u, ↓xrk_u, ↓xrk0_u, ↓xob_v, ↓xmb_v, ↓xth_v, ↓xth_x, ↓jn_u, ↓xlen_u, ↓xaL_u, ↓xsL_u, ↓xbl_0, ↓xbl_1, eq_self, inb_n, inb_d, Sh_PI, Sh_PL, dk_PI, dk_PL, dr_PI, dr_PL, ↓reduceIte, Int32.reduceLE, Int32.reduceLT, Int32.reduceToNatClampNeg, Nat.reduceLT, Nat.reduceLeDiff, Nat.reduceEqDiff, Nat.reduceAdd, Nat.reduceMul, hT.1.1, t_isP hs0 hT0.1.2.1, t_inT hp (by omega), t_inT hq (by omega), e10, t_bad0 hs0 z0, bit_n (show p < 7 by omega)]
  generalize dwPI M (b + 54) 44 0 = M0 at *
  refine lpx (E := fun x => x = some (wayV A p q, M0)) (fun f i (x : Int32) => L_X10_way_44 M0 (b + 54) (Int32.ofNat q) (fun (y7 : Int32) => some (y7, M0)) (fun (_u : Unit) => some ((-1 : Int32), M0)) f x (Int32.ofNat i)) (tP (aT A)) (fun i x => x = Int32.ofNat (rchN (aT A) p i) ∧ fsN (wayB A p q) i = i) ?_ ?_ 1000000 0 (Int32.ofNat (2 ^ p)) (by omega) (by omega) ⟨rfl, rfl⟩
  · intro f x ⟨e, h⟩
    simp -implicitDefEqProofs only [L_X10_way_44, ↓gp0_2, ↓gp0_3, ↓gp0_4, ↓gp0_5, ↓gp0_6, ↓gp0_7, ↓gp0_8, ↓gp0_9, ↓gp0_10, ↓gp0_18, ↓gp0_19, ↓gp0_20, ↓gp0_22, ↓gp23_43, ↓gp23_32, ↓gp23_33, ↓gp23_34, ↓gp23_35, ↓gp23_36, ↓gp29_43, ↓gp29_32, ↓gp29_33, ↓gp29_34, ↓gp29_35, ↓gp29_36, ↓gp54_53, ↓gp54_54, ↓gp54_55, ↓gp54_56, ↓gp54_57, ↓gp54_58, ↓gp54_59, ↓gp54_60, ↓gp54_61, ↓gp54_62, ↓gp54_65, ↓gp54_66, ↓gp54_67, ↓gp54_68, ↓gp54_69, ↓gp54_70, ↓gp54_71, ↓gp54_73, ↓gp54_74, ↓gp54_75, ↓gp54_76, ↓gp54_84, ↓gp54_85, ↓gp54_87, ↓gp54_88, ↓xr59, kr59, ↓xr67, kr67, ↓xr75, kr75, ↓xr82, kr82, ↓xr89, kr89, ↓xr102, kr102, ↓xr115, kr115, ↓xr276, kr276, ↓xr437, kr437, ↓xr444, kr444, ↓xr453, kr453, ↓xr536, kr536, ↓xr553, kr553, hs0, hw0, hs1, hw1, hs2, hw2, hs3, hw3, hs4, hw4, hs5, hw5, hs6, hw6, hs7, hw7, hs8, hw8, hs9, hw9, hs10, hw10, hs11, hw11, hs12, hw12, hs13, hw13, hs14, hw14, hs15, hw15, hs16, hw16, hs17, hw17, hs18, hw18, hs19, hw19, hs20, hw20, hs21, hw21, hs22, hw22, hs23, hw23, hs25, hw25, hs26, hw26, hs27, hw27, hs28, hw28, hs9b, hw9b, hs10b, hw10b, kd0, kd20, kd21, kd22, kd23, kd24, kd25, kd26, kd27, kd28, kd29, kd30, kd31, kd32, kd33, kd34, kd35, kd36, kd37, kd38, kd39, kd40, kd41, kd42, kd54, kd55, kd56, kd57, kd58, kd59, kd67, kd75, kd82, kd89, kd102, kd115, kd276, kd437, kd444, kd451, kd452, kd453, kd534, kd535, kd536, kd553, kd557, kd558, kd559, kd560, kd561, ↓xgI_u, ↓xpI_u, ↓xaI_u, ↓xsI_u, ↓xrk_u, ↓xrk0_u, ↓xob_v, ↓xmb_v, ↓xth_v, ↓xth_x, ↓jn_u, ↓xlen_u, ↓xaL_u, ↓xsL_u, ↓xbl_0, ↓xbl_1, eq_self, inb_n, inb_d, Sh_PI, Sh_PL, dk_PI, dk_PL, dr_PI, dr_PL, ↓reduceIte, Int32.reduceLE, Int32.reduceLT, Int32.reduceToNatClampNeg, Nat.reduceLT, Nat.reduceLeDiff, Nat.reduceEqDiff, Nat.reduceAdd, Nat.reduceMul, hs0, hT0.1.2.1.1, i_geT, if_true]
    unfold wayV
    rw [if_pos h]
  · intro f i x hi ⟨e, h⟩ hn
    have hl := rch_lt hO hp i
    subst e
    by_cases hc : (rchN (aT A) p i).testBit q = true
    · have hh := (has_ofN (a := rchN (aT A) p i) (by omega) (show q < 7 by omega)).mpr hc
      simp -implicitDefEqProofs only [L_X10_way_44, m_X10_has, ↓gp0_2, ↓gp0_3, ↓gp0_4, ↓gp0_5, ↓gp0_6, ↓gp0_7, ↓gp0_8, ↓gp0_9, ↓gp0_10, ↓gp0_18, ↓gp0_19, ↓gp0_20, ↓gp0_22, ↓gp23_43, ↓gp23_32, ↓gp23_33, ↓gp23_34, ↓gp23_35, ↓gp23_36, ↓gp29_43, ↓gp29_32, ↓gp29_33, ↓gp29_34, ↓gp29_35, ↓gp29_36, ↓gp54_53, ↓gp54_54, ↓gp54_55, ↓gp54_56, ↓gp54_57, ↓gp54_58, ↓gp54_59, ↓gp54_60, ↓gp54_61, ↓gp54_62, ↓gp54_65, ↓gp54_66, ↓gp54_67, ↓gp54_68, ↓gp54_69, ↓gp54_70, ↓gp54_71, ↓gp54_73, ↓gp54_74, ↓gp54_75, ↓gp54_76, ↓gp54_84, ↓gp54_85, ↓gp54_87, ↓gp54_88, ↓xr59, kr59, ↓xr67, kr67, ↓xr75, kr75, ↓xr82, kr82, ↓xr89, kr89, ↓xr102, kr102, ↓xr115, kr115, ↓xr276, kr276, ↓xr437, kr437, ↓xr444, kr444, ↓xr453, kr453, ↓xr536, kr536, ↓xr553, kr553, hs0, hw0, hs1, hw1, hs2, hw2, hs3, hw3, hs4, hw4, hs5, hw5, hs6, hw6, hs7, hw7, hs8, hw8, hs9, hw9, hs10, hw10, hs11, hw11, hs12, hw12, hs13, hw13, hs14, hw14, hs15, hw15, hs16, hw16, hs17, hw17, hs18, hw18, hs19, hw19, hs20, hw20, hs21, hw21, hs22, hw22, hs23, hw23, hs25, hw25, hs26, hw26, hs27, hw27, hs28, hw28, hs9b, hw9b, hs10b, hw10b, kd0, kd20, kd21, kd22, kd23, kd24, kd25, kd26, kd27, kd28, kd29, kd30, kd31, kd32, kd33, kd34, kd35, kd36, kd37, kd38, kd39, kd40, kd41, kd42, kd54, kd55, kd56, kd57, kd58, kd59, kd67, kd75, kd82, kd89, kd102, kd115, kd276, kd437, kd444, kd451, kd452, kd453, kd534, kd535, kd536, kd553, kd557, kd558, kd559, kd560, kd561, ↓xgI_u, ↓xpI_u, ↓xaI_u, ↓xsI_u, ↓xrk_u, ↓xrk0_u, ↓xob_v, ↓xmb_v, ↓xth_v, ↓xth_x, ↓jn_u, ↓xlen_u, ↓xaL_u, ↓xsL_u, ↓xbl_0, ↓xbl_1, eq_self, inb_n, inb_d, Sh_PI, Sh_PL, dk_PI, dk_PL, dr_PI, dr_PL, ↓reduceIte, Int32.reduceLE, Int32.reduceLT, Int32.reduceToNatClampNeg, Nat.reduceLT, Nat.reduceLeDiff, Nat.reduceEqDiff, Nat.reduceAdd, Nat.reduceMul, hs0, hT0.1.2.1.1, i_geF hi (by omega), hh, if_true, e10, if_false]
      unfold wayV
      rw [fsN_s h (show wayB A p q i = true from hc) (tP (aT A)) (by omega), if_neg (by omega)]
    · have hh : ¬ (Int32.ofNat (rchN (aT A) p i) >>> (Int32.ofNat q &&& 31)) &&& 1 = 1 := fun z => hc ((has_ofN (by omega) (show q < 7 by omega)).mp z)
      simp -implicitDefEqProofs only [L_X10_way_44, m_X10_has, ↓gp0_2, ↓gp0_3, ↓gp0_4, ↓gp0_5, ↓gp0_6, ↓gp0_7, ↓gp0_8, ↓gp0_9, ↓gp0_10, ↓gp0_18, ↓gp0_19, ↓gp0_20, ↓gp0_22, ↓gp23_43, ↓gp23_32, ↓gp23_33, ↓gp23_34, ↓gp23_35, ↓gp23_36, ↓gp29_43, ↓gp29_32, ↓gp29_33, ↓gp29_34, ↓gp29_35, ↓gp29_36, ↓gp54_53, ↓gp54_54, ↓gp54_55, ↓gp54_56, ↓gp54_57, ↓gp54_58, ↓gp54_59, ↓gp54_60, ↓gp54_61, ↓gp54_62, ↓gp54_65, ↓gp54_66, ↓gp54_67, ↓gp54_68, ↓gp54_69, ↓gp54_70, ↓gp54_71, ↓gp54_73, ↓gp54_74, ↓gp54_75, ↓gp54_76, ↓gp54_84, ↓gp54_85, ↓gp54_87, ↓gp54_88, ↓xr59, kr59, ↓xr67, kr67, ↓xr75, kr75, ↓xr82, kr82, ↓xr89, kr89, ↓xr102, kr102, ↓xr115, kr115, ↓xr276, kr276, ↓xr437, kr437, ↓xr444, kr444, ↓xr453, kr453, ↓xr536, kr536, ↓xr553, kr553, hs0, hw0, hs1, hw1, hs2, hw2, hs3, hw3, hs4, hw4, hs5, hw5, hs6, hw6, hs7, hw7, hs8, hw8, hs9, hw9, hs10, hw10, hs11, hw11, hs12, hw12, hs13, hw13, hs14, hw14, hs15, hw15, hs16, hw16, hs17, hw17, hs18, hw18, hs19, hw19, hs20, hw20, hs21, hw21, hs22, hw22, hs23, hw23, hs25, hw25, hs26, hw26, hs27, hw27, hs28, hw28, hs9b, hw9b, hs10b, hw10b, kd0, kd20, kd21, kd22, kd23, kd24, kd25, kd26, kd27, kd28, kd29, kd30, kd31, kd32, kd33, kd34, kd35, kd36, kd37, kd38, kd39, kd40, kd41, kd42, kd54, kd55, kd56, kd57, kd58, kd59, kd67, kd75, kd82, kd89, kd102, kd115, kd276, kd437, kd444, kd451, kd452, kd453, kd534, kd535, kd536, kd553, kd557, kd558, kd559, kd560, kd561, ↓xgI_u, ↓xpI_u, ↓xaI_u, ↓xsI_u, ↓xrk_u, ↓xrk0_u, ↓xob_v, ↓xmb_v, ↓xth_v, ↓xth_x, ↓jn_u, ↓xlen_u, ↓xaL_u, ↓xsL_u, ↓xbl_0, ↓xbl_1, eq_self, inb_n, inb_d, Sh_PI, Sh_PL, dk_PI, dk_PL, dr_PI, dr_PL, ↓reduceIte, Int32.reduceLE, Int32.reduceLT, Int32.reduceToNatClampNeg, Nat.reduceLT, Nat.reduceLeDiff, Nat.reduceEqDiff, Nat.reduceAdd, Nat.reduceMul, hs0, hT0.1.2.1.1, i_geF hi (by omega), hh, if_false, t_further hT0, rnd_n hO hl, i_succ]
      exact hn _ ⟨by rw [rchN_e], fsN_n h (by unfold wayB; exact Bool.not_eq_true _ ▸ hc)⟩
theorem call_way (hC : CInv b w M A) (hT : TInv b M A) (hR : room M 1 6) (x y : Int32) : agree b M (fun M => m_X0_way M b x y (b + 561)) (fun M => m_X10_way M (b + 54) x y) := by
  have o1 := hC.1.ok.1.1
  rcases in_or x (tP (aT A)) with ⟨p, hp, rfl⟩ | hx
  · rcases in_or y (tP (aT A)) with ⟨q, hq, rfl⟩ | hy
    · exact agree_mk (A' := A) (k := 0) hT (c_okk (f := fun M => m_X0_way M b (Int32.ofNat p) (Int32.ofNat q) (b + 561)) hC (C_way hC hp hq) fun M1 e k => by simp -implicitDefEqProofs only [m_X0_way, ↓xgI_u, ↓xpI_u, ↓xaI_u, ↓xsI_u, ↓xrk_u, ↓xrk0_u, ↓xob_v, ↓xmb_v, ↓xth_v, ↓xth_x, ↓jn_u, ↓xlen_u, ↓xaL_u, ↓xsL_u, ↓xbl_0, ↓xbl_1, eq_self, inb_n, inb_d, Sh_PI, Sh_PL, dk_PI, dk_PL, dr_PI, dr_PL, ↓reduceIte, Int32.reduceLE, Int32.reduceLT, Int32.reduceToNatClampNeg, Nat.reduceLT, Nat.reduceLeDiff, Nat.reduceEqDiff, Nat.reduceAdd, Nat.reduceMul, kd0 hC.1.1, e, k]) fun M1 h1 => t_okk (g := fun M => m_X10_way M (b + 54) (Int32.ofNat p) (Int32.ofNat q)) h1 (T_way h1 hp hq)
    · refine agree_mk (A' := aBump A 0) (k := 1) (v := 0) hT (c_err (w := w) (f := fun M => m_X0_way M b (Int32.ofNat p) y (b + 561)) (v := 0) (x := m_X1_way M b (Int32.ofNat p) y) (cl := 2) (k := 1) (i := 0) (by decide) ?_ ?_) fun M1 h1 => t_err (g := fun M => m_X10_way M (b + 54) (Int32.ofNat p) y) (v := 0) (x := 1) (i := 0) h1 (by decide) (by decide) ?_
      · obtain ⟨M1, q, e, h⟩ := c_needPF hC hy hR
        exact ⟨M1, q, by simp -implicitDefEqProofs only [m_X1_way, ↓xgI_u, ↓xpI_u, ↓xaI_u, ↓xsI_u, ↓xrk_u, ↓xrk0_u, ↓xob_v, ↓xmb_v, ↓xth_v, ↓xth_x, ↓jn_u, ↓xlen_u, ↓xaL_u, ↓xsL_u, ↓xbl_0, ↓xbl_1, eq_self, inb_n, inb_d, Sh_PI, Sh_PL, dk_PI, dk_PL, dr_PI, dr_PL, ↓reduceIte, Int32.reduceLE, Int32.reduceLT, Int32.reduceToNatClampNeg, Nat.reduceLT, Nat.reduceLeDiff, Nat.reduceEqDiff, Nat.reduceAdd, Nat.reduceMul, kd0 hC.1.1, c_needPT hC hp, e], h⟩
      · intro M1 q e
        simp -implicitDefEqProofs only [m_X0_way, ↓xgI_u, ↓xpI_u, ↓xaI_u, ↓xsI_u, ↓xrk_u, ↓xrk0_u, ↓xob_v, ↓xmb_v, ↓xth_v, ↓xth_x, ↓jn_u, ↓xlen_u, ↓xaL_u, ↓xsL_u, ↓xbl_0, ↓xbl_1, eq_self, inb_n, inb_d, Sh_PI, Sh_PL, dk_PI, dk_PL, dr_PI, dr_PL, ↓reduceIte, Int32.reduceLE, Int32.reduceLT, Int32.reduceToNatClampNeg, Nat.reduceLT, Nat.reduceLeDiff, Nat.reduceEqDiff, Nat.reduceAdd, Nat.reduceMul, kd0 hC.1.1, e]
      · intro M2 e
        obtain ⟨hT0, f0, z0⟩ := tinv_z h1
        have e' : m_X10_bad (dwPI M1 (b + 54) 44 0) (b + 54) 1 1 0 = some (1, M2) := e
        simp -implicitDefEqProofs only [m_X10_way, ↓gp0_2, ↓gp0_3, ↓gp0_4, ↓gp0_5, ↓gp0_6, ↓gp0_7, ↓gp0_8, ↓gp0_9, ↓gp0_10, ↓gp0_18, ↓gp0_19, ↓gp0_20, ↓gp0_22, ↓gp23_43, ↓gp23_32, ↓gp23_33, ↓gp23_34, ↓gp23_35, ↓gp23_36, ↓gp29_43, ↓gp29_32, ↓gp29_33, ↓gp29_34, ↓gp29_35, ↓gp29_36, ↓gp54_53, ↓gp54_54, ↓gp54_55, ↓gp54_56, ↓gp54_57, ↓gp54_58, ↓gp54_59, ↓gp54_60, ↓gp54_61, ↓gp54_62, ↓gp54_65, ↓gp54_66, ↓gp54_67, ↓gp54_68, ↓gp54_69, ↓gp54_70, ↓gp54_71, ↓gp54_73, ↓gp54_74, ↓gp54_75, ↓gp54_76, ↓gp54_84, ↓gp54_85, ↓gp54_87, ↓gp54_88, ↓xr59, kr59, ↓xr67, kr67, ↓xr75, kr75, ↓xr82, kr82, ↓xr89, kr89, ↓xr102, kr102, ↓xr115, kr115, ↓xr276, kr276, ↓xr437, kr437, ↓xr444, kr444, ↓xr453, kr453, ↓xr536, kr536, ↓xr553, kr553, hs0, hw0, hs1, hw1, hs2, hw2, hs3, hw3, hs4, hw4, hs5, hw5, hs6, hw6, hs7, hw7, hs8, hw8, hs9, hw9, hs10, hw10, hs11, hw11, hs12, hw12, hs13, hw13, hs14, hw14, hs15, hw15, hs16, hw16, hs17, hw17, hs18, hw18, hs19, hw19, hs20, hw20, hs21, hw21, hs22, hw22, hs23, hw23, hs25, hw25, hs26, hw26, hs27, hw27, hs28, hw28, hs9b, hw9b, hs10b, hw10b, kd0, kd20, kd21, kd22, kd23, kd24, kd25, kd26, kd27, kd28, kd29, kd30, kd31, kd32, kd33, kd34, kd35, kd36, kd37, kd38, kd39, kd40, kd41, kd42, kd54, kd55, kd56, kd57, kd58, kd59, kd67, kd75, kd82, kd89, kd102, kd115, kd276, kd437, kd444, kd451, kd452, kd453, kd534, kd535, kd536, kd553, kd557, kd558, kd559, kd560, kd561, ↓xgI_u, ↓xpI_u, ↓xaI_u, ↓xsI_u, ↓xrk_u, ↓xrk0_u, ↓xob_v, ↓xmb_v, ↓xth_v, ↓xth_x, ↓jn_u, ↓xlen_u, ↓xaL_u, ↓xsL_u, ↓xbl_0, ↓xbl_1, eq_self, inb_n, inb_d, Sh_PI, Sh_PL, dk_PI, dk_PL, dr_PI, dr_PL, ↓reduceIte, Int32.reduceLE, Int32.reduceLT, Int32.reduceToNatClampNeg, Nat.reduceLT, Nat.reduceLeDiff, Nat.reduceEqDiff, Nat.reduceAdd, Nat.reduceMul, h1.1.1, t_isP hT0.1.1 hT0.1.2.1, t_inT hp (by omega), t_inF hy (by omega), e', e10]
  · refine agree_mk (A' := aBump A 0) (k := 1) (v := 0) hT (c_err (w := w) (f := fun M => m_X0_way M b x y (b + 561)) (v := 0) (x := m_X1_way M b x y) (cl := 2) (k := 1) (i := 0) (by decide) ?_ ?_) fun M1 h1 => t_err (g := fun M => m_X10_way M (b + 54) x y) (v := 0) (x := 1) (i := 0) h1 (by decide) (by decide) ?_
    · obtain ⟨M1, q, e, h⟩ := c_needPF hC hx hR
      exact ⟨M1, q, by simp -implicitDefEqProofs only [m_X1_way, ↓xgI_u, ↓xpI_u, ↓xaI_u, ↓xsI_u, ↓xrk_u, ↓xrk0_u, ↓xob_v, ↓xmb_v, ↓xth_v, ↓xth_x, ↓jn_u, ↓xlen_u, ↓xaL_u, ↓xsL_u, ↓xbl_0, ↓xbl_1, eq_self, inb_n, inb_d, Sh_PI, Sh_PL, dk_PI, dk_PL, dr_PI, dr_PL, ↓reduceIte, Int32.reduceLE, Int32.reduceLT, Int32.reduceToNatClampNeg, Nat.reduceLT, Nat.reduceLeDiff, Nat.reduceEqDiff, Nat.reduceAdd, Nat.reduceMul, kd0 hC.1.1, e], h⟩
    · intro M1 q e
      simp -implicitDefEqProofs only [m_X0_way, ↓xgI_u, ↓xpI_u, ↓xaI_u, ↓xsI_u, ↓xrk_u, ↓xrk0_u, ↓xob_v, ↓xmb_v, ↓xth_v, ↓xth_x, ↓jn_u, ↓xlen_u, ↓xaL_u, ↓xsL_u, ↓xbl_0, ↓xbl_1, eq_self, inb_n, inb_d, Sh_PI, Sh_PL, dk_PI, dk_PL, dr_PI, dr_PL, ↓reduceIte, Int32.reduceLE, Int32.reduceLT, Int32.reduceToNatClampNeg, Nat.reduceLT, Nat.reduceLeDiff, Nat.reduceEqDiff, Nat.reduceAdd, Nat.reduceMul, kd0 hC.1.1, e]
    · intro M2 e
      obtain ⟨hT0, f0, z0⟩ := tinv_z h1
      have e' : m_X10_bad (dwPI M1 (b + 54) 44 0) (b + 54) 1 1 0 = some (1, M2) := e
      simp -implicitDefEqProofs only [m_X10_way, ↓gp0_2, ↓gp0_3, ↓gp0_4, ↓gp0_5, ↓gp0_6, ↓gp0_7, ↓gp0_8, ↓gp0_9, ↓gp0_10, ↓gp0_18, ↓gp0_19, ↓gp0_20, ↓gp0_22, ↓gp23_43, ↓gp23_32, ↓gp23_33, ↓gp23_34, ↓gp23_35, ↓gp23_36, ↓gp29_43, ↓gp29_32, ↓gp29_33, ↓gp29_34, ↓gp29_35, ↓gp29_36, ↓gp54_53, ↓gp54_54, ↓gp54_55, ↓gp54_56, ↓gp54_57, ↓gp54_58, ↓gp54_59, ↓gp54_60, ↓gp54_61, ↓gp54_62, ↓gp54_65, ↓gp54_66, ↓gp54_67, ↓gp54_68, ↓gp54_69, ↓gp54_70, ↓gp54_71, ↓gp54_73, ↓gp54_74, ↓gp54_75, ↓gp54_76, ↓gp54_84, ↓gp54_85, ↓gp54_87, ↓gp54_88, ↓xr59, kr59, ↓xr67, kr67, ↓xr75, kr75, ↓xr82, kr82, ↓xr89, kr89, ↓xr102, kr102, ↓xr115, kr115, ↓xr276, kr276, ↓xr437, kr437, ↓xr444, kr444, ↓xr453, kr453, ↓xr536, kr536, ↓xr553, kr553, hs0, hw0, hs1, hw1, hs2, hw2, hs3, hw3, hs4, hw4, hs5, hw5, hs6, hw6, hs7, hw7, hs8, hw8, hs9, hw9, hs10, hw10, hs11, hw11, hs12, hw12, hs13, hw13, hs14, hw14, hs15, hw15, hs16, hw16, hs17, hw17, hs18, hw18, hs19, hw19, hs20, hw20, hs21, hw21, hs22, hw22, hs23, hw23, hs25, hw25, hs26, hw26, hs27, hw27, hs28, hw28, hs9b, hw9b, hs10b, hw10b, kd0, kd20, kd21, kd22, kd23, kd24, kd25, kd26, kd27, kd28, kd29, kd30, kd31, kd32, kd33, kd34, kd35, kd36, kd37, kd38, kd39, kd40, kd41, kd42, kd54, kd55, kd56, kd57, kd58, kd59, kd67, kd75, kd82, kd89, kd102, kd115, kd276, kd437, kd444, kd451, kd452, kd453, kd534, kd535, kd536, kd553, kd557, kd558, kd559, kd560, kd561, ↓xgI_u, ↓xpI_u, ↓xaI_u, ↓xsI_u, ↓xrk_u, ↓xrk0_u, ↓xob_v, ↓xmb_v, ↓xth_v, ↓xth_x, ↓jn_u, ↓xlen_u, ↓xaL_u, ↓xsL_u, ↓xbl_0, ↓xbl_1, eq_self, inb_n, inb_d, Sh_PI, Sh_PL, dk_PI, dk_PL, dr_PI, dr_PL, ↓reduceIte, Int32.reduceLE, Int32.reduceLT, Int32.reduceToNatClampNeg, Nat.reduceLT, Nat.reduceLeDiff, Nat.reduceEqDiff, Nat.reduceAdd, Nat.reduceMul, h1.1.1, t_isP hT0.1.1 hT0.1.2.1, t_inF hx (by omega), e', e10]
/-! enough, both -/
theorem call_enough (hC : CInv b w M A) (hT : TInv b M A) (hR : room M 1 6) (x : Int32) : agree b M (fun M => m_X0_enough M b x (b + 561)) (fun M => m_X10_enough M (b + 54) x) := by
  rcases inV_01 x 0 999 with hy | hy
  · refine agree_mk (A' := aBump A 1) (k := 1) (v := 0) hT (c_err (w := w) (f := fun M => m_X0_enough M b x (b + 561)) (v := 0) (x := m_X1_enough M b x) (cl := 1) (k := 1) (i := 1) (by decide) ?_ ?_) fun M1 h1 => t_err (g := fun M => m_X10_enough M (b + 54) x) (v := 0) (x := 1) (i := 1) h1 (by decide) (by decide) ?_
    · obtain ⟨M1, q, e, h⟩ := c_need0 hy hC hR
      exact ⟨M1, q, by simp -implicitDefEqProofs only [m_X1_enough, ↓xgI_u, ↓xpI_u, ↓xaI_u, ↓xsI_u, ↓xrk_u, ↓xrk0_u, ↓xob_v, ↓xmb_v, ↓xth_v, ↓xth_x, ↓jn_u, ↓xlen_u, ↓xaL_u, ↓xsL_u, ↓xbl_0, ↓xbl_1, eq_self, inb_n, inb_d, Sh_PI, Sh_PL, dk_PI, dk_PL, dr_PI, dr_PL, ↓reduceIte, Int32.reduceLE, Int32.reduceLT, Int32.reduceToNatClampNeg, Nat.reduceLT, Nat.reduceLeDiff, Nat.reduceEqDiff, Nat.reduceAdd, Nat.reduceMul, kd0 hC.1.1, c_isIn, e], h⟩
    · intro M1 q e
      simp -implicitDefEqProofs only [m_X0_enough, ↓xgI_u, ↓xpI_u, ↓xaI_u, ↓xsI_u, ↓xrk_u, ↓xrk0_u, ↓xob_v, ↓xmb_v, ↓xth_v, ↓xth_x, ↓jn_u, ↓xlen_u, ↓xaL_u, ↓xsL_u, ↓xbl_0, ↓xbl_1, eq_self, inb_n, inb_d, Sh_PI, Sh_PL, dk_PI, dk_PL, dr_PI, dr_PL, ↓reduceIte, Int32.reduceLE, Int32.reduceLT, Int32.reduceToNatClampNeg, Nat.reduceLT, Nat.reduceLeDiff, Nat.reduceEqDiff, Nat.reduceAdd, Nat.reduceMul, kd0 hC.1.1, e]
    · intro M2 e
      obtain ⟨hT0, f0, z0⟩ := tinv_z h1
      have e' : m_X10_bad (dwPI M1 (b + 54) 44 0) (b + 54) 1 1 1 = some (1, M2) := e
      simp -implicitDefEqProofs only [m_X10_enough, ↓gp0_2, ↓gp0_3, ↓gp0_4, ↓gp0_5, ↓gp0_6, ↓gp0_7, ↓gp0_8, ↓gp0_9, ↓gp0_10, ↓gp0_18, ↓gp0_19, ↓gp0_20, ↓gp0_22, ↓gp23_43, ↓gp23_32, ↓gp23_33, ↓gp23_34, ↓gp23_35, ↓gp23_36, ↓gp29_43, ↓gp29_32, ↓gp29_33, ↓gp29_34, ↓gp29_35, ↓gp29_36, ↓gp54_53, ↓gp54_54, ↓gp54_55, ↓gp54_56, ↓gp54_57, ↓gp54_58, ↓gp54_59, ↓gp54_60, ↓gp54_61, ↓gp54_62, ↓gp54_65, ↓gp54_66, ↓gp54_67, ↓gp54_68, ↓gp54_69, ↓gp54_70, ↓gp54_71, ↓gp54_73, ↓gp54_74, ↓gp54_75, ↓gp54_76, ↓gp54_84, ↓gp54_85, ↓gp54_87, ↓gp54_88, ↓xr59, kr59, ↓xr67, kr67, ↓xr75, kr75, ↓xr82, kr82, ↓xr89, kr89, ↓xr102, kr102, ↓xr115, kr115, ↓xr276, kr276, ↓xr437, kr437, ↓xr444, kr444, ↓xr453, kr453, ↓xr536, kr536, ↓xr553, kr553, hs0, hw0, hs1, hw1, hs2, hw2, hs3, hw3, hs4, hw4, hs5, hw5, hs6, hw6, hs7, hw7, hs8, hw8, hs9, hw9, hs10, hw10, hs11, hw11, hs12, hw12, hs13, hw13, hs14, hw14, hs15, hw15, hs16, hw16, hs17, hw17, hs18, hw18, hs19, hw19, hs20, hw20, hs21, hw21, hs22, hw22, hs23, hw23, hs25, hw25, hs26, hw26, hs27, hw27, hs28, hw28, hs9b, hw9b, hs10b, hw10b, kd0, kd20, kd21, kd22, kd23, kd24, kd25, kd26, kd27, kd28, kd29, kd30, kd31, kd32, kd33, kd34, kd35, kd36, kd37, kd38, kd39, kd40, kd41, kd42, kd54, kd55, kd56, kd57, kd58, kd59, kd67, kd75, kd82, kd89, kd102, kd115, kd276, kd437, kd444, kd451, kd452, kd453, kd534, kd535, kd536, kd553, kd557, kd558, kd559, kd560, kd561, ↓xgI_u, ↓xpI_u, ↓xaI_u, ↓xsI_u, ↓xrk_u, ↓xrk0_u, ↓xob_v, ↓xmb_v, ↓xth_v, ↓xth_x, ↓jn_u, ↓xlen_u, ↓xaL_u, ↓xsL_u, ↓xbl_0, ↓xbl_1, eq_self, inb_n, inb_d, Sh_PI, Sh_PL, dk_PI, dk_PL, dr_PI, dr_PL, ↓reduceIte, Int32.reduceLE, Int32.reduceLT, Int32.reduceToNatClampNeg, Nat.reduceLT, Nat.reduceLeDiff, Nat.reduceEqDiff, Nat.reduceAdd, Nat.reduceMul, h1.1.1, t_in, hy, e', e10]
  · obtain ⟨v, M1, e, f, hm⟩ := C_enough hC hy
    refine agree_mk (A' := A) (k := 0) (v := v) hT (c_okk (f := fun M => m_X0_enough M b x (b + 561)) (x := m_X1_enough M b x) hC ⟨M1, e, f⟩ fun M1 e k => by simp -implicitDefEqProofs only [m_X0_enough, ↓xgI_u, ↓xpI_u, ↓xaI_u, ↓xsI_u, ↓xrk_u, ↓xrk0_u, ↓xob_v, ↓xmb_v, ↓xth_v, ↓xth_x, ↓jn_u, ↓xlen_u, ↓xaL_u, ↓xsL_u, ↓xbl_0, ↓xbl_1, eq_self, inb_n, inb_d, Sh_PI, Sh_PL, dk_PI, dk_PL, dr_PI, dr_PL, ↓reduceIte, Int32.reduceLE, Int32.reduceLT, Int32.reduceToNatClampNeg, Nat.reduceLT, Nat.reduceLeDiff, Nat.reduceEqDiff, Nat.reduceAdd, Nat.reduceMul, kd0 hC.1.1, e, k]) fun M1 h1 => ?_
    obtain ⟨v', M2, e2, f2, hm2⟩ := T_enough h1 hy
    rw [minP_u hm hm2]
    exact t_okk (g := fun M => m_X10_enough M (b + 54) x) h1 ⟨M2, e2, f2⟩
end CALL
