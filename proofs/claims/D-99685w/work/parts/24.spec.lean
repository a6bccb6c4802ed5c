/-! WHAT IS COMPUTED: the told, laughs, days -/
/-- the told: how many persons, jokes, streets; persons (dimples, taste), jokes (kind, strong), streets (two); the jug, the drink -/
abbrev dvT : Type := Nat × Nat × Nat × (Nat → Nat → Int32) × (Nat → Nat → Int32) × (Nat → Nat → Int32) × Int32 × Int32
def tP (T : dvT) : Nat := T.1
def tJ (T : dvT) : Nat := T.2.1
def tS (T : dvT) : Nat := T.2.2.1
def tpe (T : dvT) : Nat → Nat → Int32 := T.2.2.2.1
def tjo (T : dvT) : Nat → Nat → Int32 := T.2.2.2.2.1
def tst (T : dvT) : Nat → Nat → Int32 := T.2.2.2.2.2.1
def tjug (T : dvT) : Int32 := T.2.2.2.2.2.2.1
def tdr (T : dvT) : Int32 := T.2.2.2.2.2.2.2
def bI (v : Int32) : Int32 := 1 <<< (v &&& 31)
def whoS (n : Nat) (r : Nat → Int32) (o : Nat) : Int32 := itr (fun p x => x ||| (if r (o + p) ≤ 0 then 0 else bI (Int32.ofNat p))) 0 n
def sumS (n : Nat) (r : Nat → Int32) (o : Nat) : Int32 := itr (fun p x => x + r (o + p)) 0 n
def nearS (T : dvT) (p : Nat) : Int32 := itr (fun e x => x ||| (if tst T e 0 = Int32.ofNat p then bI (tst T e 1) else if tst T e 1 = Int32.ofNat p then bI (tst T e 0) else 0)) 0 (tS T)
def onesS (x : Int32) : Int32 := itr (fun k n => n + ((x >>> (Int32.ofNat k &&& 31)) &&& 1)) 0 7
def moreS (a c : Int32) : Int32 := if a ≤ c then c else a
def lessS (a c : Int32) : Int32 := if c ≤ a then c else a
def apartS (T : dvT) (j : Nat) (t : Int32) : Int32 := moreS (t - tjo T j 0) (tjo T j 0 - t)
def clampS (v : Int32) : Int32 := lessS 40 (moreS 0 v)
def opS (o u v : Int32) : Int32 := if o = 2 then u + v else if o = 3 then u - v else if o = 4 then u * v else if o = 5 then (if v = 0 then 0 else u / v) else if o = 6 then (if v = 0 then 0 else u - u / v * v) else if o = 7 then lessS u v else moreS u v
def facS (v0 v1 v2 v3 v4 v5 v6 v7 v8 v9 : Int32) (k : Nat) : Int32 := if k = 9 then v9 else if k = 8 then v8 else if k = 7 then v7 else if k = 6 then v6 else if k = 5 then v5 else if k = 4 then v4 else if k = 3 then v3 else if k = 2 then v2 else if k = 1 then v1 else v0
def laughS (T : dvT) (lw : (Nat → Int32) → Int32) (r : Nat → Int32) (j p : Nat) (t g m : Int32) : Int32 :=
  clampS (lw (facS (tjo T j 1) (apartS T j t) (r (35 + 7 * j + p) + m) (sumS (tP T) r (35 + 7 * j) + m) (tpe T p 0) g (onesS (nearS T p &&& whoS (tP T) r 0)) (r (7 + p)) (r 78) (Int32.ofNat p)))
def lghS (T : dvT) (lw : (Nat → Int32) → Int32) (r : Nat → Int32) (j p : Nat) : Int32 := laughS T lw r j p (tpe T p 1) (r p) 0
def watS (T : dvT) (lw : (Nat → Int32) → Int32) (r : Nat → Int32) (j p : Nat) : Int32 := lghS T lw r j p * tpe T p 0
/-! a law's codes: what they come to -/
def tmv (f : Nat → Int32) : Nat → List (Int32 × Int32) → Int32 → Prop
  | 0, _, _ => False
  | d + 1, cs, v => (cs = [(0, v)]) ∨ (∃ w, w < 10 ∧ cs = [(1, Int32.ofNat w)] ∧ v = f w) ∨ (∃ o c1 c2 v1 v2, (2 ≤ o ∧ o ≤ 8) ∧ tmv f d c1 v1 ∧ tmv f d c2 v2 ∧ cs = c1 ++ c2 ++ [(o, 0)] ∧ v = opS o v1 v2)
def lext (lw : (Nat → Int32) → Int32) : Prop := ∀ f g, (∀ k, k < 10 → f k = g k) → lw f = lw g
/-! THE TWIN's picture -/
def tOK (T : dvT) : Prop := tP T ≤ 7 ∧ tJ T ≤ 6 ∧ tS T ≤ 12 ∧ (∀ p, p < tP T → 0 ≤ tpe T p 0 ∧ tpe T p 0 ≤ 3 ∧ 0 ≤ tpe T p 1 ∧ tpe T p 1 ≤ 9) ∧ (∀ j, j < tJ T → 0 ≤ tjo T j 0 ∧ tjo T j 0 ≤ 9) ∧ (∀ e, e < tS T → ∃ a c, a < tP T ∧ c < tP T ∧ a ≠ c ∧ tst T e 0 = Int32.ofNat a ∧ tst T e 1 = Int32.ofNat c) ∧ 0 ≤ tdr T ∧ tdr T ≤ 9 ∧ 0 ≤ tjug T ∧ tjug T ≤ 200
def tTold (b : Nat) (M : dwSt) (T : dvT) : Prop :=
  dwI M (b + 58) 0 = Int32.ofNat (tP T) ∧ dwI M (b + 58) 1 = Int32.ofNat (tJ T) ∧ dwI M (b + 58) 2 = Int32.ofNat (tS T) ∧ dwI M (b + 58) 3 = tjug T ∧ dwI M (b + 58) 4 = tdr T ∧
  (∀ p i, p < tP T → i < 2 → dwI M (b + 68 + p) i = tpe T p i) ∧ (∀ j i, j < tJ T → i < 2 → dwI M (b + 83 + j) i = tjo T j i) ∧ (∀ e i, e < tS T → i < 2 → dwI M (b + 103 + e) i = tst T e i) ∧ tOK T
def tLaw (b : Nat) (M : dwSt) (lw : (Nat → Int32) → Int32) : Prop :=
  lext lw ∧ ∃ cs : List (Int32 × Int32), cs.length ≤ 160 ∧ dwI M (b + 54) 63 = Int32.ofNat cs.length ∧ (∀ k x, cs[k]? = some x → dwI M (b + 116 + k) 0 = x.1 ∧ dwI M (b + 116 + k) 1 = x.2) ∧ ((cs = [] ∧ ∀ f, lw f = f 0 - 2 * f 1 - 3 * f 2 - f 5) ∨ ∃ d, ∀ f, tmv f d cs (lw f))
/-- a row's cell: now or trial -/
def rowA (b a : Nat) : Prop := a = b + 534 ∨ a = b + 535
theorem rowA.k {b a : Nat} {M : dwSt} (h : Sh b M) (ha : rowA b a) : dwK M a = (1, 79) := by
  rcases ha with rfl | rfl
  · exact kd534 h
  · exact kd535 h
/-- the twin's told, law as they stand -/
def tEnv (b : Nat) (M : dwSt) (T : dvT) (lw : (Nat → Int32) → Int32) : Prop := Sh b M ∧ tTold b M T ∧ tLaw b M lw
def sKn (b : Nat) : Nat → Nat → Prop := fun a _ => a = b + 451 ∨ a = b + 452
/-- cells that no frame of the twin's told or law touches -/
def tFree (b : Nat) (S : Nat → Nat → Prop) : Prop := ∀ a k, S a k → ¬ (b + 58 ≤ a ∧ a ≤ b + 275) ∧ ¬ (a = b + 54 ∧ k = 63)
theorem tTold.fr {b n u : Nat} {S Z : Nat → Nat → Prop} {M M' : dwSt} {T : dvT} (hs : Sh b M) (h : tTold b M T) (f : fr S Z n u M M') (hS : tFree b S) : tTold b M' T := by
  have hn := shN hs
  have hi : ∀ i k, 58 ≤ i → i ≤ 275 → dwI M' (b + i) k = dwI M (b + i) k := fun i k h1 h2 => f.i (by omega) (fun q => (hS _ _ q).1 ⟨by omega, by omega⟩)
  obtain ⟨h1, h2, h3, h4, h5, h6, h7, h8, h9⟩ := h
  have o1 := h9.1
  have o2 := h9.2.1
  have o3 := h9.2.2.1
  refine ⟨(hi 58 0 (by omega) (by omega)).trans h1, (hi 58 1 (by omega) (by omega)).trans h2, (hi 58 2 (by omega) (by omega)).trans h3, (hi 58 3 (by omega) (by omega)).trans h4, (hi 58 4 (by omega) (by omega)).trans h5, ?_, ?_, ?_, h9⟩
  · intro p i hp hi2; rw [Nat.add_assoc, hi _ _ (by omega) (by omega), ← Nat.add_assoc]; exact h6 p i hp hi2
  · intro p i hp hi2; rw [Nat.add_assoc, hi _ _ (by omega) (by omega), ← Nat.add_assoc]; exact h7 p i hp hi2
  · intro p i hp hi2; rw [Nat.add_assoc, hi _ _ (by omega) (by omega), ← Nat.add_assoc]; exact h8 p i hp hi2
theorem tLaw.fr {b n u : Nat} {S Z : Nat → Nat → Prop} {M M' : dwSt} {lw : (Nat → Int32) → Int32} (hs : Sh b M) (h : tLaw b M lw) (f : fr S Z n u M M') (hS : tFree b S) : tLaw b M' lw := by
  have hn := shN hs
  obtain ⟨he, cs, h1, h2, h3, h4⟩ := h
  refine ⟨he, cs, h1, (f.i (by omega) (fun q => (hS _ _ q).2 ⟨rfl, rfl⟩)).trans h2, fun k x hx => ?_, h4⟩
  have hk : k < cs.length := (List.getElem?_eq_some_iff.mp hx).1
  obtain ⟨q1, q2⟩ := h3 k x hx
  exact ⟨(f.i (by omega) (fun q => (hS _ _ q).1 ⟨by omega, by omega⟩)).trans q1, (f.i (by omega) (fun q => (hS _ _ q).1 ⟨by omega, by omega⟩)).trans q2⟩
theorem tEnv.fr {b n u : Nat} {S Z : Nat → Nat → Prop} {M M' : dwSt} {T : dvT} {lw : (Nat → Int32) → Int32} (h : tEnv b M T lw) (f : fr S Z n u M M') (hS : tFree b S) (hZ : ∀ a k, Z a k → ¬ ptr b a k) : tEnv b M' T lw :=
  ⟨h.1.fr f hZ, h.2.1.fr h.1 f hS, h.2.2.fr h.1 f hS⟩
theorem nz_p {b : Nat} : ∀ a k, nz a k → ¬ ptr b a k := fun _ _ h => False.elim h
theorem sKn_t {b : Nat} : tFree b (sKn b) := fun a k h => by unfold sKn at h; omega
