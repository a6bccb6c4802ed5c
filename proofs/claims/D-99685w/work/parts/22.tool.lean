/-! PLAIN LAW, its tools: whole numbers, outcomes, loops, frames -/
theorem i_toInt {n : Nat} (h : n < 2147483648) : (Int32.ofNat n).toInt = (n : Int) := Int32.toInt_ofNat_of_lt (by omega)
theorem i_nat {n : Nat} (h : n < 2147483648) : (Int32.ofNat n).toNatClampNeg = n := Int32.toNatClampNeg_ofNat_of_lt (by omega)
theorem i_le {a b : Nat} (ha : a < 2147483648) (hb : b < 2147483648) : Int32.ofNat a ≤ Int32.ofNat b ↔ a ≤ b := Int32.ofNat_le_iff_le (by omega) (by omega)
theorem i_lt {a b : Nat} (ha : a < 2147483648) (hb : b < 2147483648) : Int32.ofNat a < Int32.ofNat b ↔ a < b := Int32.ofNat_lt_iff_lt (by omega) (by omega)
theorem i_succ (n : Nat) : Int32.ofNat n + 1 = Int32.ofNat (n + 1) := by rw [Int32.ofNat_add]; rfl
theorem i_add (a b : Nat) : Int32.ofNat a + Int32.ofNat b = Int32.ofNat (a + b) := (Int32.ofNat_add a b).symm
theorem i_mul (a b : Nat) : Int32.ofNat a * Int32.ofNat b = Int32.ofNat (a * b) := (Int32.ofNat_mul a b).symm
theorem i_inj {a b : Nat} (ha : a < 2147483648) (hb : b < 2147483648) : Int32.ofNat a = Int32.ofNat b ↔ a = b := by
  constructor
  · intro h
    have := congrArg Int32.toNatClampNeg h
    rwa [i_nat ha, i_nat hb] at this
  · intro h; rw [h]
theorem i_geF {i n : Nat} (h : i < n) (hn : n < 2147483648) : (Int32.ofNat n ≤ Int32.ofNat i) = False := by
  rw [i_le hn (by omega)]; exact eq_false (by omega)
theorem i_geT (n : Nat) : (Int32.ofNat n ≤ Int32.ofNat n) = True := eq_true (Int32.le_refl _)
theorem i_zero : Int32.ofNat 0 = 0 := rfl
/-- a whole number within bounds is one of the naturals -/
theorem i_of {x : Int32} {n : Nat} (h0 : ¬ x < 0) (h1 : x < Int32.ofNat n) (hn : n < 2147483648) : ∃ k, k < n ∧ x = Int32.ofNat k := by
  have h0' : 0 ≤ x := by rw [← Int32.not_lt]; exact h0
  have hx := Int32.ofNat_toNatClampNeg x h0'
  have hl : x.toNatClampNeg < 2147483648 := Int32.toNatClampNeg_lt x
  rw [← hx, i_lt hl hn] at h1
  exact ⟨x.toNatClampNeg, h1, hx.symm⟩
section OK
variable {α β γ ρ : Type}
/-- it ends with an answer and a store of which Q holds -/
def ok (x : Option (α × dwSt)) (Q : α → dwSt → Prop) : Prop := ∃ v M, x = some (v, M) ∧ Q v M
theorem ok_s {Q : α → dwSt → Prop} {v : α} {M : dwSt} (h : Q v M) : ok (some (v, M)) Q := ⟨v, M, rfl, h⟩
theorem ok.mono {x : Option (α × dwSt)} {Q R : α → dwSt → Prop} (h : ok x Q) (f : ∀ v M, Q v M → R v M) : ok x R := by
  obtain ⟨v, M, e, q⟩ := h
  exact ⟨v, M, e, f v M q⟩
theorem ok_mb {x : Option (α × dwSt)} {K : α → dwSt → Option (β × dwSt)} {R : α → dwSt → Prop} {Q : β → dwSt → Prop} (h : ok x R) (k : ∀ v M, R v M → ok (K v M) Q) : ok (xmb x K) Q := by
  obtain ⟨v, M, e, q⟩ := h
  rw [e]
  exact k v M q
theorem ok_ob {x : Option α} {K : α → Option (β × dwSt)} {Q : β → dwSt → Prop} {v : α} (h : x = some v) (k : ok (K v) Q) : ok (xob x K) Q := by
  rw [h]
  exact k
theorem xob_v {v : α} {K : α → Option ρ} : xob (some v) K = K v := (fun _ => rfl : True → _) trivial
theorem xmb_v {v : α} {M : dwSt} {K : α → dwSt → Option ρ} : xmb (some (v, M)) K = K v M := rfl
theorem xth_v {v : α} {M : dwSt} {K : α → dwSt → Option ρ} {X : Nat → Nat → dwSt → Option ρ} : xth (some (.inl v, M)) K X = K v M := rfl
theorem xth_x {c q : Nat} {M : dwSt} {K : α → dwSt → Option ρ} {X : Nat → Nat → dwSt → Option ρ} : xth (some (.inr (c, q), M)) K X = X c q M := rfl
/-- an answer, or an object of a class thrown -/
def okx (x : dwR9 α) (Q : α → dwSt → Prop) (X : Nat → Nat → dwSt → Prop) : Prop := ok x (fun r M => match r with
  | .inl v => Q v M
  | .inr (c, q) => X c q M)
theorem ok_th {x : dwR9 α} {K : α → dwSt → Option (β × dwSt)} {KX : Nat → Nat → dwSt → Option (β × dwSt)} {R : α → dwSt → Prop} {X : Nat → Nat → dwSt → Prop} {Q : β → dwSt → Prop} (h : okx x R X) (k : ∀ v M, R v M → ok (K v M) Q) (kx : ∀ c q M, X c q M → ok (KX c q M) Q) : ok (xth x K KX) Q := by
  obtain ⟨v, M, e, q⟩ := h
  subst e
  match v, q with
  | .inl v, q => exact k v M q
  | .inr (c, o), q => exact kx c o M q
theorem okx_v {v : α} {M : dwSt} {Q : α → dwSt → Prop} {X : Nat → Nat → dwSt → Prop} (h : Q v M) : okx (some (.inl v, M)) Q X := ⟨_, M, rfl, h⟩
theorem okx_x {c q : Nat} {M : dwSt} {Q : α → dwSt → Prop} {X : Nat → Nat → dwSt → Prop} (h : X c q M) : okx (α := α) (some (.inr (c, q), M)) Q X := ⟨_, M, rfl, h⟩
theorem okx.mono {x : dwR9 α} {Q R : α → dwSt → Prop} {X Y : Nat → Nat → dwSt → Prop} (h : okx x Q X) (f : ∀ v M, Q v M → R v M) (g : ∀ c q M, X c q M → Y c q M) : okx x R Y := by
  obtain ⟨v, M, e, q⟩ := h
  refine ⟨v, M, e, ?_⟩
  match v, q with
  | .inl v, q => exact f v M q
  | .inr (c, o), q => exact g c o M q
/-- a loop upward from i to n, with what holds at its head -/
theorem lpx {σ τ : Type} {E : τ → Prop} (L : Nat → Nat → σ → τ) (n : Nat) (P : Nat → σ → Prop) (hend : ∀ f s, P n s → E (L (f + 1) n s)) (hstep : ∀ f i s, i < n → P i s → (∀ s', P (i + 1) s' → E (L f (i + 1) s')) → E (L (f + 1) i s)) : ∀ (f i : Nat) (s : σ), i ≤ n → n < f + i → P i s → E (L f i s) := by
  intro f
  induction f with
  | zero => intro i s h1 h2 _; omega
  | succ f ih =>
    intro i s h1 h2 hP
    by_cases e : i = n
    · subst e; exact hend f s hP
    · exact hstep f i s (by omega) hP (fun s' h => ih (i + 1) s' (by omega) (by omega) h)
end OK
/-- n times, from 0 on -/
def itr {α : Type} (f : Nat → α → α) (a : α) : Nat → α
  | 0 => a
  | n + 1 => f n (itr f a n)
theorem itr_s {α : Type} (f : Nat → α → α) (a : α) (n : Nat) : f n (itr f a n) = itr f a (n + 1) := rfl
theorem itr_z {α : Type} (f : Nat → α → α) (a : α) : itr f a 0 = a := rfl
theorem itr_c {α : Type} {f g : Nat → α → α} {a : α} {n : Nat} (h : ∀ i x, i < n → f i x = g i x) : itr f a n = itr g a n := by
  induction n with
  | zero => rfl
  | succ n ih => show f n _ = g n _; rw [ih (fun i x hi => h i x (by omega)), h n _ (by omega)]
/-! what a store reads after a write -/
theorem dk_PI (M : dwSt) (a k : Nat) (v : Int32) : dwK (dwPI M a k v) = dwK M := (fun _ => rfl : True → _) trivial
theorem dk_PL (M : dwSt) (a k : Nat) (v : Int64) : dwK (dwPL M a k v) = dwK M := (fun _ => rfl : True → _) trivial
theorem dk_PR (M : dwSt) (a k : Nat) (v : Option Nat) : dwK (dwPR M a k v) = dwK M := (fun _ => rfl : True → _) trivial
theorem dr_PI (M : dwSt) (a k : Nat) (v : Int32) : dwR (dwPI M a k v) = dwR M := (fun _ => rfl : True → _) trivial
theorem dr_PL (M : dwSt) (a k : Nat) (v : Int64) : dwR (dwPL M a k v) = dwR M := (fun _ => rfl : True → _) trivial
theorem di_PL (M : dwSt) (a k : Nat) (v : Int64) : dwI (dwPL M a k v) = dwI M := (fun _ => rfl : True → _) trivial
theorem di_PR (M : dwSt) (a k : Nat) (v : Option Nat) : dwI (dwPR M a k v) = dwI M := (fun _ => rfl : True → _) trivial
theorem dl_PI (M : dwSt) (a k : Nat) (v : Int32) : dwL (dwPI M a k v) = dwL M := (fun _ => rfl : True → _) trivial
theorem dl_PR (M : dwSt) (a k : Nat) (v : Option Nat) : dwL (dwPR M a k v) = dwL M := (fun _ => rfl : True → _) trivial
theorem di_PI (M : dwSt) (a k : Nat) (v : Int32) (b j : Nat) : dwI (dwPI M a k v) b j = if b = a ∧ j = k then v else dwI M b j := (fun _ => rfl : True → _) trivial
theorem dl_PL (M : dwSt) (a k : Nat) (v : Int64) (b j : Nat) : dwL (dwPL M a k v) b j = if b = a ∧ j = k then v else dwL M b j := (fun _ => rfl : True → _) trivial
theorem dr_PR (M : dwSt) (a k : Nat) (v : Option Nat) (b j : Nat) : dwR (dwPR M a k v) b j = if b = a ∧ j = k then v else dwR M b j := (fun _ => rfl : True → _) trivial
theorem dx_PI (M : dwSt) (a k : Nat) (v : Int32) : dwX (dwPI M a k v) = dwX M := (fun _ => rfl : True → _) trivial
theorem dx_PL (M : dwSt) (a k : Nat) (v : Int64) : dwX (dwPL M a k v) = dwX M := (fun _ => rfl : True → _) trivial
theorem dx_PR (M : dwSt) (a k : Nat) (v : Option Nat) : dwX (dwPR M a k v) = dwX M := (fun _ => rfl : True → _) trivial
theorem dn_PI (M : dwSt) (a k : Nat) (v : Int32) : dwN (dwPI M a k v) = dwN M := (fun _ => rfl : True → _) trivial
theorem dn_PL (M : dwSt) (a k : Nat) (v : Int64) : dwN (dwPL M a k v) = dwN M := (fun _ => rfl : True → _) trivial
theorem dn_PR (M : dwSt) (a k : Nat) (v : Option Nat) : dwN (dwPR M a k v) = dwN M := (fun _ => rfl : True → _) trivial
theorem du_PI (M : dwSt) (a k : Nat) (v : Int32) : dwU (dwPI M a k v) = dwU M := (fun _ => rfl : True → _) trivial
theorem du_PL (M : dwSt) (a k : Nat) (v : Int64) : dwU (dwPL M a k v) = dwU M := (fun _ => rfl : True → _) trivial
theorem du_PR (M : dwSt) (a k : Nat) (v : Option Nat) : dwU (dwPR M a k v) = dwU M := (fun _ => rfl : True → _) trivial
theorem dc_PI (M : dwSt) (a k : Nat) (v : Int32) : dwC (dwPI M a k v) = dwC M := (fun _ => rfl : True → _) trivial
theorem dc_PL (M : dwSt) (a k : Nat) (v : Int64) : dwC (dwPL M a k v) = dwC M := (fun _ => rfl : True → _) trivial
theorem dc_PR (M : dwSt) (a k : Nat) (v : Option Nat) : dwC (dwPR M a k v) = dwC M := (fun _ => rfl : True → _) trivial
theorem dn_Mk (M : dwSt) (kd : Nat × Nat) (n : Nat) : dwN (dwMk M kd n) = dwN M + 1 := (fun _ => rfl : True → _) trivial
theorem du_Mk (M : dwSt) (kd : Nat × Nat) (n : Nat) : dwU (dwMk M kd n) = dwU M + n := (fun _ => rfl : True → _) trivial
theorem dc_Mk (M : dwSt) (kd : Nat × Nat) (n : Nat) : dwC (dwMk M kd n) = dwC M := (fun _ => rfl : True → _) trivial
theorem dx_Mk (M : dwSt) (kd : Nat × Nat) (n : Nat) : dwX (dwMk M kd n) = dwX M := (fun _ => rfl : True → _) trivial
theorem dk_Mk (M : dwSt) (kd : Nat × Nat) (n a : Nat) : dwK (dwMk M kd n) a = if a = dwN M then kd else dwK M a := (fun _ => rfl : True → _) trivial
theorem di_Mk (M : dwSt) (kd : Nat × Nat) (n a : Nat) : dwI (dwMk M kd n) a = if a = dwN M then (fun _ => 0) else dwI M a := (fun _ => rfl : True → _) trivial
theorem dl_Mk (M : dwSt) (kd : Nat × Nat) (n a : Nat) : dwL (dwMk M kd n) a = if a = dwN M then (fun _ => 0) else dwL M a := (fun _ => rfl : True → _) trivial
theorem dr_Mk (M : dwSt) (kd : Nat × Nat) (n a : Nat) : dwR (dwMk M kd n) a = if a = dwN M then (fun _ => none) else dwR M a := (fun _ => rfl : True → _) trivial
/-! FRAMES: what a run may have changed: ints and longs in S, references in Z, at most n new cells of u slots -/
def fr (S Z : Nat → Nat → Prop) (n u : Nat) (M M' : dwSt) : Prop :=
  dwC M' = dwC M ∧ dwX M' = dwX M ∧ dwN M ≤ dwN M' ∧ dwN M' ≤ dwN M + n ∧ dwU M' ≤ dwU M + u ∧ (∀ a, a < dwN M → dwK M' a = dwK M a) ∧ (∀ a k, a < dwN M → ¬ S a k → dwI M' a k = dwI M a k ∧ dwL M' a k = dwL M a k) ∧ (∀ a k, a < dwN M → ¬ Z a k → dwR M' a k = dwR M a k)
def nz : Nat → Nat → Prop := fun _ _ => False
section FR
variable {S Z S' Z' : Nat → Nat → Prop} {cn cu cn' cu' : Nat} {M M' M'' : dwSt}
theorem fr.c (h : fr S Z cn cu M M') : dwC M' = dwC M := h.1
theorem fr.x (h : fr S Z cn cu M M') : dwX M' = dwX M := h.2.1
theorem fr.n (h : fr S Z cn cu M M') : dwN M ≤ dwN M' := h.2.2.1
theorem fr.nn (h : fr S Z cn cu M M') : dwN M' ≤ dwN M + cn := h.2.2.2.1
theorem fr.u (h : fr S Z cn cu M M') : dwU M' ≤ dwU M + cu := h.2.2.2.2.1
theorem fr.k (h : fr S Z cn cu M M') {a : Nat} (ha : a < dwN M) : dwK M' a = dwK M a := h.2.2.2.2.2.1 a ha
theorem fr.i (h : fr S Z cn cu M M') {a k : Nat} (ha : a < dwN M) (hs : ¬ S a k) : dwI M' a k = dwI M a k := (h.2.2.2.2.2.2.1 a k ha hs).1
theorem fr.l (h : fr S Z cn cu M M') {a k : Nat} (ha : a < dwN M) (hs : ¬ S a k) : dwL M' a k = dwL M a k := (h.2.2.2.2.2.2.1 a k ha hs).2
theorem fr.r (h : fr S Z cn cu M M') {a k : Nat} (ha : a < dwN M) (hs : ¬ Z a k) : dwR M' a k = dwR M a k := h.2.2.2.2.2.2.2 a k ha hs
theorem fr.if (h : fr S Z cn cu M M') {a : Nat} (ha : a < dwN M) (hs : ∀ k, ¬ S a k) : dwI M' a = dwI M a := funext fun k => h.i ha (hs k)
theorem fr.lf (h : fr S Z cn cu M M') {a : Nat} (ha : a < dwN M) (hs : ∀ k, ¬ S a k) : dwL M' a = dwL M a := funext fun k => h.l ha (hs k)
theorem fr.rf (h : fr S Z cn cu M M') {a : Nat} (ha : a < dwN M) (hs : ∀ k, ¬ Z a k) : dwR M' a = dwR M a := funext fun k => h.r ha (hs k)
theorem fr.refl (M : dwSt) : fr S Z 0 0 M M := ⟨rfl, rfl, Nat.le_refl _, Nat.le_refl _, Nat.le_refl _, fun _ _ => rfl, fun _ _ _ _ => ⟨rfl, rfl⟩, fun _ _ _ _ => rfl⟩
theorem fr.trans (h : fr S Z cn cu M M') (g : fr S Z cn' cu' M' M'') : fr S Z (cn + cn') (cu + cu') M M'' := by
  obtain ⟨a1, a2, a3, a4, a5, a6, a7, a8⟩ := h
  obtain ⟨b1, b2, b3, b4, b5, b6, b7, b8⟩ := g
  refine ⟨b1.trans a1, b2.trans a2, by omega, by omega, by omega, fun a ha => (b6 a (by omega)).trans (a6 a ha), fun a k ha hs => ?_, fun a k ha hs => (b8 a k (by omega) hs).trans (a8 a k ha hs)⟩
  exact ⟨(b7 a k (by omega) hs).1.trans (a7 a k ha hs).1, (b7 a k (by omega) hs).2.trans (a7 a k ha hs).2⟩
theorem fr.t0 (h : fr S Z cn cu M M') (g : fr S Z 0 0 M' M'') : fr S Z cn cu M M'' := h.trans g
theorem fr.mono (h : fr S Z cn cu M M') (hS : ∀ a k, S a k → S' a k) (hZ : ∀ a k, Z a k → Z' a k) (hn : cn ≤ cn') (hu : cu ≤ cu') : fr S' Z' cn' cu' M M' :=
  ⟨h.1, h.2.1, h.n, Nat.le_trans h.nn (by omega), Nat.le_trans h.u (by omega), fun _ ha => h.k ha, fun a k ha hs => ⟨h.i ha (fun q => hs (hS a k q)), h.l ha (fun q => hs (hS a k q))⟩, fun a k ha hs => h.r ha (fun q => hs (hZ a k q))⟩
/-- the changed places of a store may be narrowed to those that were there -/
theorem fr.old (h : fr S Z cn cu M M') (hS : ∀ a k, a < dwN M → S a k → S' a k) (hZ : ∀ a k, a < dwN M → Z a k → Z' a k) : fr S' Z' cn cu M M' :=
  ⟨h.1, h.2.1, h.n, h.nn, h.u, fun _ ha => h.k ha, fun a k ha hs => ⟨h.i ha (fun q => hs (hS a k ha q)), h.l ha (fun q => hs (hS a k ha q))⟩, fun a k ha hs => h.r ha (fun q => hs (hZ a k ha q))⟩
theorem fr.pI (h : fr S Z cn cu M M') {a k : Nat} (v : Int32) (hs : S a k ∨ dwN M ≤ a) : fr S Z cn cu M (dwPI M' a k v) :=
  ⟨h.1, h.2.1, h.n, h.nn, h.u, fun _ ha => h.k ha, fun b j hb hj => ⟨by
    rw [di_PI]
    by_cases e : b = a ∧ j = k
    · exfalso
      obtain ⟨rfl, rfl⟩ := e
      rcases hs with hs | hs
      · exact hj hs
      · omega
    · rw [if_neg e]; exact h.i hb hj, by rw [dl_PI]; exact h.l hb hj⟩, fun b j hb hj => h.r hb hj⟩
theorem fr.pL (h : fr S Z cn cu M M') {a k : Nat} (v : Int64) (hs : S a k ∨ dwN M ≤ a) : fr S Z cn cu M (dwPL M' a k v) :=
  ⟨h.1, h.2.1, h.n, h.nn, h.u, fun _ ha => h.k ha, fun b j hb hj => ⟨by rw [di_PL]; exact h.i hb hj, by
    rw [dl_PL]
    by_cases e : b = a ∧ j = k
    · exfalso
      obtain ⟨rfl, rfl⟩ := e
      rcases hs with hs | hs
      · exact hj hs
      · omega
    · rw [if_neg e]; exact h.l hb hj⟩, fun b j hb hj => h.r hb hj⟩
theorem fr.pR (h : fr S Z cn cu M M') {a k : Nat} (v : Option Nat) (hs : Z a k ∨ dwN M ≤ a) : fr S Z cn cu M (dwPR M' a k v) :=
  ⟨h.1, h.2.1, h.n, h.nn, h.u, fun _ ha => h.k ha, fun b j hb hj => ⟨by rw [di_PR]; exact h.i hb hj, by rw [dl_PR]; exact h.l hb hj⟩, fun b j hb hj => by
    rw [dr_PR]
    by_cases e : b = a ∧ j = k
    · exfalso
      obtain ⟨rfl, rfl⟩ := e
      rcases hs with hs | hs
      · exact hj hs
      · omega
    · rw [if_neg e]; exact h.r hb hj⟩
theorem fr.mk (h : fr S Z cn cu M M') (kd : Nat × Nat) (m : Nat) : fr S Z (cn + 1) (cu + m) M (dwMk M' kd m) := by
  have q := h.n
  have e : ∀ a, a < dwN M → ¬ a = dwN M' := fun a ha => by omega
  refine ⟨h.1, h.2.1, ?_, ?_, ?_, fun a ha => ?_, fun b j hb hj => ⟨?_, ?_⟩, fun b j hb hj => ?_⟩
  · rw [dn_Mk]; omega
  · rw [dn_Mk]; have := h.nn; omega
  · rw [du_Mk]; have := h.u; omega
  · rw [dk_Mk, if_neg (e a ha)]; exact h.k ha
  · rw [di_Mk, if_neg (e b hb)]; exact h.i hb hj
  · rw [dl_Mk, if_neg (e b hb)]; exact h.l hb hj
  · rw [dr_Mk, if_neg (e b hb)]; exact h.r hb hj
end FR
