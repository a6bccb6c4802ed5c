/-! some: longs -/
theorem j_mul (a c : Nat) : Int64.ofNat a * Int64.ofNat c = Int64.ofNat (a * c) := (Int64.ofNat_mul a c).symm
theorem j_add (a c : Nat) : Int64.ofNat a + Int64.ofNat c = Int64.ofNat (a + c) := (Int64.ofNat_add a c).symm
theorem j_div {a c : Nat} (ha : a < 2 ^ 63) (hc : c < 2 ^ 63) : Int64.ofNat a / Int64.ofNat c = Int64.ofNat (a / c) := (Int64.ofNat_div ha hc).symm
theorem j_of {n : Nat} (h : n < 2147483648) : (Int32.ofNat n).toInt64 = Int64.ofNat n := Int32.toInt64_ofNat' (by show (n : Int) ≤ 2147483647; omega)
theorem j_z {n : Nat} (h : n < 2 ^ 63) : (Int64.ofNat n = 0) ↔ n = 0 := by
  constructor
  · intro q
    have := congrArg Int64.toInt q
    rw [Int64.toInt_ofNat_of_lt h, show (0 : Int64).toInt = 0 from rfl] at this
    omega
  · intro q; subst q; rfl
theorem j_cmp {n : Nat} (h : n < 2 ^ 63) : (lg_cmp (Int64.ofNat n) 0 = 0) ↔ n = 0 := by
  unfold lg_cmp
  constructor
  · intro q
    by_cases h1 : Int64.ofNat n > 0
    · rw [if_pos h1] at q; exact absurd q (by decide)
    · rw [if_neg h1] at q
      by_cases h2 : Int64.ofNat n = 0
      · exact (j_z h).mp h2
      · rw [if_neg h2] at q; exact absurd q (by decide)
  · intro q; subst q; decide
theorem xldiv_u {ρ : Type} {x y : Int64} {K : Int64 → Option ρ} (h : ¬ y = 0) : xldiv x y K = K (x / y) := if_neg h
theorem xlrem_u {ρ : Type} {x y : Int64} {K : Int64 → Option ρ} (h : ¬ y = 0) : xlrem x y K = K (x - x / y * y) := if_neg h
theorem j_rem {a c : Nat} (ha : a < 2 ^ 63) (hc : c < 2 ^ 63) : Int64.ofNat a - Int64.ofNat a / Int64.ofNat c * Int64.ofNat c = Int64.ofNat (a % c) := by
  rw [j_div ha hc, j_mul, ← Int64.ofNat_sub _ _ (Nat.div_mul_le_self a c)]
  congr 1
  have := Nat.mod_add_div a c
  rw [Nat.mul_comm] at this
  omega
def wyN (n k : Nat) : Nat := itr (fun i v => v * (n - i) / (i + 1)) 1 k
def tmN (n q i : Nat) : Nat := wyN n i * q ^ i * (16 - q) ^ (n - i)
def clN (n q i : Nat) : Nat := if i ≤ n then tmN n q i else 0
theorem wy_lt : ∀ n, n < 13 → ∀ k, k < 14 → wyN n k < 1000 := by decide +kernel
theorem cl_s : ∀ n, n < 12 → ∀ q, q < 17 → ∀ i, i < 14 → clN n q i * (16 - q) + (if i = 0 then 0 else clN n q (i - 1) * q) = clN (n + 1) q i := by decide +kernel
theorem cl_lt : ∀ n, n < 13 → ∀ q, q < 17 → ∀ i, i < 14 → clN n q i < 2 ^ 48 + 1 := by decide +kernel
theorem p16 : ∀ n, n < 13 → (1 : Int64) <<< (((4 * Int32.ofNat n) : Int32).toInt64 &&& 63) = Int64.ofNat (16 ^ n) := by decide +kernel
def upN (n q k m : Nat) : Nat := itr (fun t s => s + tmN n q (k + t)) 0 m
def upT (n q k m : Nat) : Nat := itr (fun t s => s + clN n q (k + t)) 0 m
theorem up_eq (n q k : Nat) : ∀ m, upT n q k m = upN n q k (min m (n + 1 - k)) := by
  intro m
  induction m with
  | zero => rw [Nat.zero_min]; rfl
  | succ m ih =>
    show upT n q k m + clN n q (k + m) = _
    rw [ih]
    by_cases h : m < n + 1 - k
    · rw [Nat.min_eq_left (by omega), Nat.min_eq_left (by omega)]
      unfold clN
      rw [if_pos (by omega)]
      rfl
    · rw [Nat.min_eq_right (by omega), Nat.min_eq_right (by omega)]
      unfold clN
      rw [if_neg (by omega)]
      rfl
theorem up_le {n q k B : Nat} (h : ∀ i, i < 14 → clN n q i ≤ B) : ∀ m, k + m ≤ 14 → upT n q k m ≤ m * B := by
  intro m
  induction m with
  | zero => intro _; exact Nat.zero_le _
  | succ m ih =>
    intro hm
    have h1 := h (k + m) (by omega)
    have h2 := ih (by omega)
    have h3 : upT n q k (m + 1) = upT n q k m + clN n q (k + m) := rfl
    rw [h3, Nat.succ_mul]
    omega
theorem up_lt : ∀ n, n < 13 → ∀ q, q < 17 → ∀ k, k < 14 → ∀ m, m < 15 → k + m ≤ 14 → upT n q k m < 2 ^ 53 := by
  intro n hn q hq k hk m hm hkm
  obtain ⟨B, hB⟩ : ∃ B : Nat, B = 281474976710656 := ⟨_, rfl⟩
  have h1 : upT n q k m ≤ m * B := up_le (fun i hi => by rw [hB]; exact Nat.le_of_lt_succ (cl_lt n hn q hq i hi)) m hkm
  have h2 : m * B ≤ 14 * B := Nat.mul_le_mul_right _ (by omega)
  have h3 : 14 * B < 2 ^ 53 := by rw [hB]; decide
  exact Nat.lt_of_le_of_lt (Nat.le_trans h1 h2) h3
section PURE
variable {ρ : Type}
theorem c_ways {n k : Nat} (hn : n < 13) (hk : k ≤ n) : m_X1_ways (Int32.ofNat n) (Int32.ofNat k) = some (Int64.ofNat (wyN n k)) := by
  simp -implicitDefEqProofs only [m_X1_ways, jn_u]
  refine lpx (E := fun x => x = some (Int64.ofNat (wyN n k))) (fun f i (s : Int64) => L_X1_ways_5 (Int32.ofNat n) (Int32.ofNat k) (fun (y1 : Int64) => some y1) f s (Int32.ofNat i)) k (fun i s => s = Int64.ofNat (wyN n i)) ?_ ?_ 1000000 0 1 (by omega) (by omega) rfl
  · intro f s e
    subst e
    simp -implicitDefEqProofs only [L_X1_ways_5, i_geT, if_true]
  · intro f i s hi e hnx
    subst e
    have hw := wy_lt n hn i (by omega)
    have hb : wyN n i * (n - i) < 1000 * 13 := Nat.mul_lt_mul_of_lt_of_le hw (by omega) (by omega)
    have hz : ¬ Int64.ofNat (i + 1) = 0 := by rw [j_z (by omega)]; omega
    simp -implicitDefEqProofs only [L_X1_ways_5, i_geF hi (by omega), if_false, i_succ, i_sub (show i ≤ n by omega), j_of (show n - i < 2147483648 by omega), j_of (show i + 1 < 2147483648 by omega), xldiv_u hz, j_mul, j_div (show wyN n i * (n - i) < 2 ^ 63 by omega) (show i + 1 < 2 ^ 63 by omega)]
    exact hnx _ rfl
theorem c_power {q k : Nat} (hk : k < 1000) : m_X1_power (Int64.ofNat q) (Int32.ofNat k) = some (Int64.ofNat (q ^ k)) := by
  simp -implicitDefEqProofs only [m_X1_power, jn_u]
  refine lpx (E := fun x => x = some (Int64.ofNat (q ^ k))) (fun f i (s : Int64) => L_X1_power_5 (Int64.ofNat q) (Int32.ofNat k) (fun (y1 : Int64) => some y1) f s (Int32.ofNat i)) k (fun i s => s = Int64.ofNat (q ^ i)) ?_ ?_ 1000000 0 1 (by omega) (by omega) rfl
  · intro f s e
    subst e
    simp -implicitDefEqProofs only [L_X1_power_5, i_geT, if_true]
  · intro f i s hi e hnx
    subst e
    simp -implicitDefEqProofs only [L_X1_power_5, i_geF hi (by omega), if_false, i_succ, j_mul, ← Nat.pow_succ]
    exact hnx _ rfl
theorem c_up {M : dwSt} {x4 : Int32} {K : Int64 → Option ρ} {n q k : Nat} (hn : n < 13) (hq : q < 17) (hk : k < 14) : L_X1_some_53 M (Int32.ofNat n) (Int32.ofNat q) x4 K 1000000 0 (Int32.ofNat k) = K (Int64.ofNat (upN n q k (n + 1 - k))) := by
  refine lpx (E := fun x => x = K (Int64.ofNat (upN n q k (n + 1 - k)))) (fun f t (s : Int64) => L_X1_some_53 M (Int32.ofNat n) (Int32.ofNat q) x4 K f s (Int32.ofNat (k + t))) (n + 1 - k) (fun t s => s = Int64.ofNat (upN n q k t)) ?_ ?_ 1000000 0 0 (by omega) (by omega) rfl
  · intro f s e
    subst e
    have hlt : (Int32.ofNat n < Int32.ofNat (k + (n + 1 - k))) = True := by rw [i_lt (by omega) (by omega)]; exact eq_true (by omega)
    simp -implicitDefEqProofs only [L_X1_some_53, hlt, if_true]
  · intro f t s ht e hnx
    subst e
    have hlt : (Int32.ofNat n < Int32.ofNat (k + t)) = False := by rw [i_lt (by omega) (by omega)]; exact eq_false (by omega)
    have e16 : (16 : Int32) - Int32.ofNat q = Int32.ofNat (16 - q) := i_sub (a := 16) (by omega)
    simp -implicitDefEqProofs only [L_X1_some_53, hlt, if_false, c_ways hn (show k + t ≤ n by omega), e16, j_of (show q < 2147483648 by omega), j_of (show 16 - q < 2147483648 by omega), i_sub (show k + t ≤ n by omega), c_power (show k + t < 1000 by omega), c_power (show n - (k + t) < 1000 by omega), xob_v, j_mul, j_add, i_succ]
    exact hnx _ rfl
theorem gcd_l {L : Nat → Int64 → Int64 → Option ρ} {K : Int64 → Option ρ} (hL : ∀ f x y, L (f + 1) x y = if (lg_cmp y 0) = 0 then K x else xlrem x y (fun v => L f y v)) : ∀ (s x y f : Nat), y < 2 ^ s → x < 2 ^ 62 → y < 2 ^ 62 → 2 * s + 1 < f → L f (Int64.ofNat x) (Int64.ofNat y) = K (Int64.ofNat (Nat.gcd x y)) := by
  have step : ∀ x y f, x < 2 ^ 62 → y < 2 ^ 62 → y ≠ 0 → L (f + 1) (Int64.ofNat x) (Int64.ofNat y) = L f (Int64.ofNat y) (Int64.ofNat (x % y)) := by
    intro x y f hx hy h0
    rw [hL, if_neg (by rw [j_cmp (by omega)]; exact h0), xlrem_u (by rw [j_z (by omega)]; exact h0), j_rem (by omega) (by omega)]
  have fin : ∀ x f, L (f + 1) (Int64.ofNat x) (Int64.ofNat 0) = K (Int64.ofNat x) := fun x f => by
    rw [hL, if_pos ((j_cmp (n := 0) (by decide)).mpr rfl)]
  intro s
  induction s with
  | zero =>
    intro x y f h1 h2 h3 h4
    have : y = 0 := by omega
    subst this
    obtain ⟨f', rfl⟩ : ∃ f', f = f' + 1 := ⟨f - 1, by omega⟩
    rw [fin, Nat.gcd_zero_right]
  | succ s ih =>
    intro x y f h1 h2 h3 h4
    obtain ⟨f', rfl⟩ : ∃ f', f = f' + 1 := ⟨f - 1, by omega⟩
    by_cases h0 : y = 0
    · subst h0; rw [fin, Nat.gcd_zero_right]
    · rw [step _ _ _ h2 h3 h0, Nat.gcd_comm x y, Nat.gcd_rec y x, Nat.gcd_comm]
      have hm := Nat.mod_lt x (show 0 < y by omega)
      obtain ⟨f'', rfl⟩ : ∃ f'', f' = f'' + 1 := ⟨f' - 1, by omega⟩
      by_cases h5 : x % y = 0
      · rw [h5, fin, Nat.gcd_zero_right]
      · rw [step _ _ _ h3 (by omega) h5, Nat.gcd_comm y (x % y), Nat.gcd_rec (x % y) y, Nat.gcd_comm]
        have hm2 := Nat.mod_lt y (show 0 < x % y by omega)
        have hd := Nat.mod_add_div y (x % y)
        have hq : 1 ≤ y / (x % y) := Nat.div_pos (by omega) (by omega)
        have hq2 : x % y ≤ x % y * (y / (x % y)) := Nat.le_mul_of_pos_right _ hq
        refine ih _ _ _ ?_ (by omega) (by omega) (by omega)
        have : 2 ^ (s + 1) = 2 * 2 ^ s := by rw [Nat.pow_succ, Nat.mul_comm]
        omega
end PURE
def smV (n k q : Nat) (y : Int32) : Int64 := if y = 0 then Int64.ofNat (upN n q k (n + 1 - k)) / Int64.ofNat (Nat.gcd (upN n q k (n + 1 - k)) (16 ^ n)) else Int64.ofNat (16 ^ n) / Int64.ofNat (Nat.gcd (upN n q k (n + 1 - k)) (16 ^ n))
theorem p16_lt {n : Nat} (h : n < 13) : 16 ^ n < 2 ^ 53 := Nat.lt_of_le_of_lt (Nat.pow_le_pow_right (n := 16) (by omega) (show n ≤ 12 by omega)) (by decide)
theorem upN_lt {n q k : Nat} (hn : n < 13) (hq : q < 17) (hk : k < 14) : upN n q k (n + 1 - k) < 2 ^ 53 := by
  have h := up_lt n hn q hq k hk (14 - k) (by omega) (by omega)
  rw [up_eq, Nat.min_eq_right (by omega)] at h
  exact h
section CALL
variable {b : Nat} {w : Nat → Nat} {M : dwSt} {A : dvA}
theorem C_some {x0 x1 x2 y : Int32} (hC : CInv b w M A) (g0 : inV x0 0 12 = 1) (g1 : inV x1 0 13 = 1) (g2 : inV x2 0 16 = 1) (g3 : inV y 0 1 = 1) : ∃ M1, m_X1_some M b x0 x1 x2 y = some (.inl (smV x0.toNatClampNeg x1.toNatClampNeg x2.toNatClampNeg y), M1) ∧ fr (cSc b) nz 0 0 M M1 := by
  obtain ⟨n, hn, rfl⟩ := inV_n (n := 12) (by omega) g0
  obtain ⟨k, hk, rfl⟩ := inV_n (n := 13) (by omega) g1
  obtain ⟨q, hq, rfl⟩ := inV_n (n := 16) (by omega) g2
  rw [i_nat (by omega), i_nat (by omega), i_nat (by omega)]
  have need : m_X1_need M b 1 = some (.inl (), M) := c_need1 rfl
  have hu := upN_lt (n := n) (q := q) (k := k) (by omega) (by omega) (by omega)
  have hp := p16_lt (n := n) (by omega)
  have hp0 : 0 < 16 ^ n := Nat.pow_pos (by omega)
  have hg : 0 < Nat.gcd (upN n q k (n + 1 - k)) (16 ^ n) := Nat.gcd_pos_of_pos_right _ hp0
  have hgl : Nat.gcd (upN n q k (n + 1 - k)) (16 ^ n) ≤ 16 ^ n := Nat.gcd_le_right _ hp0
  have hz : ¬ Int64.ofNat (Nat.gcd (upN n q k (n + 1 - k)) (16 ^ n)) = 0 := by rw [j_z (by omega)]; omega
  have pw : m_X1_power 16 (Int32.ofNat n) = some (Int64.ofNat (16 ^ n)) := c_power (q := 16) (by omega)
  refine ⟨M, ?_, fr.refl M⟩
  simp -implicitDefEqProofs only [m_X1_some, ↓xgI_u, ↓xpI_u, ↓xaI_u, ↓xsI_u, ↓xrk_u, ↓xrk0_u, ↓xob_v, ↓xmb_v, ↓xth_v, ↓xth_x, ↓jn_u, ↓xlen_u, ↓xaL_u, ↓xsL_u, ↓xbl_0, ↓xbl_1, eq_self, inb_n, inb_d, Sh_PI, Sh_PL, dk_PI, dk_PL, dr_PI, dr_PL, ↓reduceIte, Int32.reduceLE, Int32.reduceLT, Int32.reduceToNatClampNeg, Nat.reduceLT, Nat.reduceLeDiff, Nat.reduceEqDiff, Nat.reduceAdd, Nat.reduceMul, kd0 hC.1.1, c_isIn, c_part, g0, g1, g2, g3, e10, need, c_up (show n < 13 by omega) (show q < 17 by omega) (show k < 14 by omega), pw]
  rw [gcd_l (L := fun f x z => L_X1_some_114 M y (Int64.ofNat (upN n q k (n + 1 - k))) (Int64.ofNat (16 ^ n)) _ f x z) (fun f x z => by rw [L_X1_some_114]) 53 _ _ 1000000 hp (by omega) (by omega) (by omega)]
  unfold smV
  by_cases h0 : y = 0
  · rw [if_pos h0, if_pos h0, xldiv_u hz]
  · rw [if_neg h0, if_neg h0, xldiv_u hz]
end CALL
