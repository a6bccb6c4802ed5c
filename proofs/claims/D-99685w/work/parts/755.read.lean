/-! A BOOK read: what it says -/
def bkAdd (B : Nat × (Nat → Nat → Int32)) (j v : Nat) : Nat × (Nat → Nat → Int32) := (B.1 + 1, fun k i => if k = B.1 then (if i = 0 then Int32.ofNat j else Int32.ofNat v) else B.2 k i)
/-- one line from p on: its joke, its laugh, and where it ends -/
def boJ (X : Nat → Nat) (L J p : Nat) : (Nat × Nat) ⊕ (Nat × Nat) := nbS X L 0 (Int32.ofNat J - 1) p
def boQ (X : Nat → Nat) (L J : Nat) (B : Nat × (Nat → Nat → Int32)) (p : Nat) : rsP := match boJ X L J p with
  | .inl z => if bookS B z.1 = -1 then .inl z.2 else .inr (2, blS X L p)
  | .inr e => .inr e
def boV (X : Nat → Nat) (L J : Nat) (B : Nat × (Nat → Nat → Int32)) (p : Nat) : (Nat × Nat) ⊕ (Nat × Nat) := nuR X L 0 40 (boQ X L J B p)
def boE (X : Nat → Nat) (L J : Nat) (B : Nat × (Nat → Nat → Int32)) (p : Nat) : rsP := sgR X L 59 (poR (boV X L J B p))
def boF (X : Nat → Nat) (L J : Nat) : Nat → Nat × (Nat → Nat → Int32) → Nat → (Nat × (Nat → Nat → Int32)) ⊕ (Nat × Nat)
  | 0, B, _ => .inl B
  | n + 1, B, p => if p < L then (match boE X L J B p with
    | .inl p' => boF X L J n (bkAdd B (vaR (boJ X L J p)) (vaR (boV X L J B p))) (blS X L p')
    | .inr e => .inr e) else .inl B
theorem bkAdd_s {B : Nat × (Nat → Nat → Int32)} {j v i : Nat} (hj : j < 2147483648) (hi : i < 2147483648) : bookS (bkAdd B j v) i = if i = j then Int32.ofNat v else bookS B i := by
  unfold bookS
  show itr _ (-1) (B.1 + 1) = _
  rw [← itr_s]
  have h0 : (bkAdd B j v).2 B.1 0 = Int32.ofNat j := by show (if _ then _ else _) = _; rw [if_pos rfl, if_pos rfl]
  have h1 : (bkAdd B j v).2 B.1 1 = Int32.ofNat v := by show (if _ then _ else _) = _; rw [if_pos rfl, if_neg (by omega)]
  have hr : itr (fun k x => if (bkAdd B j v).2 k 0 = Int32.ofNat i then (bkAdd B j v).2 k 1 else x) (-1) B.1 = itr (fun k x => if B.2 k 0 = Int32.ofNat i then B.2 k 1 else x) (-1) B.1 := itr_c fun k x hk => by
    have e : ∀ z, (bkAdd B j v).2 k z = B.2 k z := fun z => by show (if _ then _ else _) = _; rw [if_neg (by omega)]
    rw [e, e]
  rw [hr]
  show (if (bkAdd B j v).2 B.1 0 = Int32.ofNat i then (bkAdd B j v).2 B.1 1 else _) = _
  rw [h0, h1]
  have : (Int32.ofNat j = Int32.ofNat i) ↔ i = j := by rw [i_inj hj hi]; exact ⟨fun e => e.symm, fun e => e.symm⟩
  by_cases e : i = j
  · rw [if_pos (this.mpr e), if_pos e]
  · rw [if_neg (fun z => e (this.mp z)), if_neg e]
/-- how many jokes are in a line -/
def bkN (f : Nat → Int32) : Nat := (if f 0 = -1 then 0 else 1) + (if f 1 = -1 then 0 else 1) + (if f 2 = -1 then 0 else 1) + (if f 3 = -1 then 0 else 1) + (if f 4 = -1 then 0 else 1) + (if f 5 = -1 then 0 else 1)
theorem bkN_add {f g : Nat → Int32} {j : Nat} (hj : j < 6) (h0 : f j = -1) (h1 : ¬ g j = -1) (h2 : ∀ i, i < 6 → i ≠ j → g i = f i) : bkN g = bkN f + 1 ∧ bkN f < 6 := by
  unfold bkN
  rcases (by omega : j = 0 ∨ j = 1 ∨ j = 2 ∨ j = 3 ∨ j = 4 ∨ j = 5) with rfl | rfl | rfl | rfl | rfl | rfl
  · rw [if_pos h0, if_neg h1, h2 1 (by omega) (by omega), h2 2 (by omega) (by omega), h2 3 (by omega) (by omega), h2 4 (by omega) (by omega), h2 5 (by omega) (by omega)]
    constructor
    · omega
    · split <;> split <;> split <;> split <;> split <;> omega
  · rw [if_pos h0, if_neg h1, h2 0 (by omega) (by omega), h2 2 (by omega) (by omega), h2 3 (by omega) (by omega), h2 4 (by omega) (by omega), h2 5 (by omega) (by omega)]
    constructor
    · omega
    · split <;> split <;> split <;> split <;> split <;> omega
  · rw [if_pos h0, if_neg h1, h2 0 (by omega) (by omega), h2 1 (by omega) (by omega), h2 3 (by omega) (by omega), h2 4 (by omega) (by omega), h2 5 (by omega) (by omega)]
    constructor
    · omega
    · split <;> split <;> split <;> split <;> split <;> omega
  · rw [if_pos h0, if_neg h1, h2 0 (by omega) (by omega), h2 1 (by omega) (by omega), h2 2 (by omega) (by omega), h2 4 (by omega) (by omega), h2 5 (by omega) (by omega)]
    constructor
    · omega
    · split <;> split <;> split <;> split <;> split <;> omega
  · rw [if_pos h0, if_neg h1, h2 0 (by omega) (by omega), h2 1 (by omega) (by omega), h2 2 (by omega) (by omega), h2 3 (by omega) (by omega), h2 5 (by omega) (by omega)]
    constructor
    · omega
    · split <;> split <;> split <;> split <;> split <;> omega
  · rw [if_pos h0, if_neg h1, h2 0 (by omega) (by omega), h2 1 (by omega) (by omega), h2 2 (by omega) (by omega), h2 3 (by omega) (by omega), h2 4 (by omega) (by omega)]
    constructor
    · omega
    · split <;> split <;> split <;> split <;> split <;> omega
/-- a book while it is read -/
def bkR (T : dvT) (B : Nat × (Nat → Nat → Int32)) : Prop := B.1 = bkN (bookS B) ∧ B.1 ≤ 6 ∧ (∀ k, k < B.1 → ∃ j, j < tJ T ∧ B.2 k 0 = Int32.ofNat j ∧ 0 ≤ B.2 k 1 ∧ B.2 k 1 ≤ 40 ∧ ¬ bookS B j = -1) ∧ ∀ k l, k < B.1 → l < k → B.2 k 0 ≠ B.2 l 0
theorem bkR.ok {T : dvT} {B : Nat × (Nat → Nat → Int32)} (h : bkR T B) : bkOK T B := ⟨h.2.1, fun k hk => by
  obtain ⟨j, h1, h2, h3, h4, h5⟩ := h.2.2.1 k hk
  exact ⟨j, h1, h2, h3, h4⟩, h.2.2.2⟩
theorem inV_le {n lo hi : Nat} (hn : n < 2147483648) (hl : lo < 2147483648) (hh : hi < 2147483648) (h : inV (Int32.ofNat n) (Int32.ofNat lo) (Int32.ofNat hi) = 1) : lo ≤ n ∧ n ≤ hi := by
  unfold inV at h
  by_cases h1 : Int32.ofNat n < Int32.ofNat lo
  · rw [if_pos h1] at h; exact absurd h (by decide)
  · rw [if_neg h1] at h
    by_cases h2 : Int32.ofNat hi < Int32.ofNat n
    · rw [if_pos h2] at h; exact absurd h (by decide)
    · rw [i_lt hn hl] at h1
      rw [i_lt hh hn] at h2
      omega
/-- below J, by what is read -/
theorem inV_lt {n J : Nat} (hn : n < 2147483648) (hJ : J < 2147483648) (h : inV (Int32.ofNat n) 0 (Int32.ofNat J - 1) = 1) : n < J := by
  refine Nat.lt_of_not_le fun hle => ?_
  rw [t_inF (Or.inr ⟨n, hle, hn, rfl⟩) hJ] at h
  exact absurd h (by decide)
theorem bkR_add {T : dvT} {B : Nat × (Nat → Nat → Int32)} {j v : Nat} (hT : tJ T ≤ 6) (h : bkR T B) (hj : j < tJ T) (hv : v ≤ 40) (h0 : bookS B j = -1) : bkR T (bkAdd B j v) ∧ B.1 < 6 := by
  obtain ⟨q1, q2, q3, q4⟩ := h
  have hvn : ¬ Int32.ofNat v = -1 := fun e => by
    have := congrArg Int32.toInt e
    rw [i_toInt (by omega)] at this
    have e1 : (-1 : Int32).toInt = -1 := rfl
    omega
  have hs : ∀ i, i < 6 → bookS (bkAdd B j v) i = if i = j then Int32.ofNat v else bookS B i := fun i hi => bkAdd_s (by omega) (by omega)
  have hN := bkN_add (f := bookS B) (g := bookS (bkAdd B j v)) (j := j) (by omega) h0 (by rw [hs j (by omega), if_pos rfl]; exact hvn) (fun i hi hne => by rw [hs i hi, if_neg hne])
  have e0 : ∀ z, (bkAdd B j v).2 B.1 z = if z = 0 then Int32.ofNat j else Int32.ofNat v := fun z => by show (if _ then _ else _) = _; rw [if_pos rfl]
  have e1 : ∀ k z, k < B.1 → (bkAdd B j v).2 k z = B.2 k z := fun k z hk => by show (if _ then _ else _) = _; rw [if_neg (by omega)]
  have h1 : (bkAdd B j v).1 = B.1 + 1 := rfl
  refine ⟨⟨by rw [h1, hN.1, q1], by rw [h1, q1]; omega, fun k hk => ?_, fun k l hk hl => ?_⟩, by omega⟩
  · by_cases e : k = B.1
    · subst e
      refine ⟨j, hj, by rw [e0, if_pos rfl], ?_, ?_, ?_⟩
      · rw [e0, if_neg (by omega), show (0 : Int32) = Int32.ofNat 0 from rfl, i_le (by omega) (by omega)]; omega
      · rw [e0, if_neg (by omega), show (40 : Int32) = Int32.ofNat 40 from rfl, i_le (by omega) (by omega)]; exact hv
      · rw [hs j (by omega), if_pos rfl]; exact hvn
    · obtain ⟨j', p1, p2, p3, p4, p5⟩ := q3 k (by omega)
      refine ⟨j', p1, by rw [e1 k _ (by omega)]; exact p2, by rw [e1 k _ (by omega)]; exact p3, by rw [e1 k _ (by omega)]; exact p4, ?_⟩
      rw [hs j' (by omega)]
      by_cases e2 : j' = j
      · rw [if_pos e2]; exact hvn
      · rw [if_neg e2]; exact p5
  · by_cases e : k = B.1
    · subst e
      rw [e0, if_pos rfl, e1 l _ hl]
      obtain ⟨j', p1, p2, p3, p4, p5⟩ := q3 l hl
      rw [p2]
      intro z
      rw [i_inj (by omega) (by omega)] at z
      subst z
      exact p5 h0
    · rw [e1 k _ (by omega), e1 l _ (by omega)]
      exact q4 k l (by omega) hl
theorem bkR_0 {T : dvT} {g : Nat → Nat → Int32} : bkR T (0, g) := ⟨rfl, by show 0 ≤ 6; omega, fun k hk => absurd hk (Nat.not_lt_zero k), fun k l hk => absurd hk (Nat.not_lt_zero k)⟩
theorem boE_inl {X : Nat → Nat} {L J : Nat} {B : Nat × (Nat → Nat → Int32)} {p p' : Nat} (hp : p ≤ L) (hJ : J < 2147483648) (h : boE X L J B p = .inl p') : ∃ z y, boJ X L J p = .inl z ∧ boQ X L J B p = .inl z.2 ∧ bookS B z.1 = -1 ∧ boV X L J B p = .inl y ∧ z.1 < J ∧ y.1 ≤ 40 ∧ p < p' ∧ p' ≤ L := by
  unfold boE at h
  cases hV : boV X L J B p with
  | inr e => rw [hV] at h; cases h
  | inl y =>
    rw [hV] at h
    unfold boV at hV
    cases hQ : boQ X L J B p with
    | inr e => rw [hQ] at hV; cases hV
    | inl q =>
      rw [hQ] at hV
      unfold boQ at hQ
      cases hJ2 : boJ X L J p with
      | inr e => rw [hJ2] at hQ; cases hQ
      | inl z =>
        rw [hJ2] at hQ
        simp only at hQ
        by_cases c : bookS B z.1 = -1
        · rw [if_pos c] at hQ
          cases hQ
          obtain ⟨a1, a2, a3, a4⟩ := nbS_le hp hJ2
          obtain ⟨b1, b2, b3, b4⟩ := nbS_le a3 hV
          have b5 := (inV_le (lo := 0) (hi := 40) (by omega) (by omega) (by omega) b4).2
          have c1 : sgS X L 59 y.2 = .inl p' := h
          unfold sgS at c1
          obtain ⟨d1, d2⟩ := blS_le (X := X) (L := L) _ y.2 rfl
          split at c1
          · next hx =>
            cases c1
            exact ⟨z, y, rfl, rfl, c, rfl, inV_lt (by omega) hJ a4, b5, by omega, by have := hx.1; omega⟩
          · cases c1
        · rw [if_neg c] at hQ; cases hQ
theorem boF_R {X : Nat → Nat} {L J : Nat} {T : dvT} (hJ : J = tJ T) (hT : tJ T ≤ 6) : ∀ n p (B B' : Nat × (Nat → Nat → Int32)), bkR T B → p ≤ L → boF X L J n B p = .inl B' → bkR T B' := by
  intro n
  induction n with
  | zero => intro p B B' h hp e; cases e; exact h
  | succ n ih =>
    intro p B B' h hp e
    rw [boF] at e
    by_cases c : p < L
    · rw [if_pos c] at e
      cases hE : boE X L J B p with
      | inr z => rw [hE] at e; cases e
      | inl p' =>
        rw [hE] at e
        obtain ⟨z, y, h1, -, h3, h4, h5, h6, h7, h8⟩ := boE_inl hp (by omega) hE
        have e' : boF X L J n (bkAdd B (vaR (boJ X L J p)) (vaR (boV X L J B p))) (blS X L p') = .inl B' := e
        rw [h1, h4] at e'
        exact ih _ _ _ (bkR_add hT h (by omega) h6 h3).1 ((blS_le _ p' rfl).2 h8) e'
    · rw [if_neg c] at e; cases e; exact h
