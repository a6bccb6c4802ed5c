/-! A LAND read: what it says -/
def addP (T : dvT) (d t : Nat) : dvT := (tP T + 1, tJ T, tS T, fun p i => if p = tP T then (if i = 0 then Int32.ofNat d else Int32.ofNat t) else tpe T p i, tjo T, tst T, tjug T, tdr T)
def addJ (T : dvT) (d t : Nat) : dvT := (tP T, tJ T + 1, tS T, tpe T, fun p i => if p = tJ T then (if i = 0 then Int32.ofNat d else Int32.ofNat t) else tjo T p i, tst T, tjug T, tdr T)
def addS (T : dvT) (d t : Nat) : dvT := (tP T, tJ T, tS T + 1, tpe T, tjo T, fun p i => if p = tS T then (if i = 0 then Int32.ofNat d else Int32.ofNat t) else tst T p i, tjug T, tdr T)
def setG (T : dvT) (v : Nat) : dvT := (tP T, tJ T, tS T, tpe T, tjo T, tst T, Int32.ofNat v, tdr T)
def setD (T : dvT) (v : Nat) : dvT := (tP T, tJ T, tS T, tpe T, tjo T, tst T, tjug T, Int32.ofNat v)
def laK (X : Nat → Nat) (L q : Nat) : Int32 := swv ((wdS X L q).take 10) swLand
def fulS (T : dvT) (c : Nat) (k : Int32) : Prop := c = 60 ∨ (k = 0 ∧ tP T = 7) ∨ (k = 1 ∧ tJ T = 6) ∨ (k = 2 ∧ tS T = 12)
theorem fulD (T : dvT) (c : Nat) (k : Int32) : fulS T c k ∨ ¬ fulS T c k := Classical.em _
noncomputable def laW (X : Nat → Nat) (L : Nat) (T : dvT) (c q : Nat) : rsP := if laK X L q = -1 then .inr (1, q) else @ite _ (fulS T c (laK X L q)) (Classical.propDecidable _) (.inr (3, q)) (.inl (q + (wdS X L q).length))
def hiA (T : dvT) (k : Int32) : Int32 := if k = 0 then 3 else if k = 1 then 9 else if k = 2 then Int32.ofNat (tP T) - 1 else if k = 3 then 200 else 9
def loB (k : Int32) : Int32 := if k = 1 then 1 else 0
def hiB (T : dvT) (k : Int32) : Int32 := if k = 0 then 9 else if k = 1 then 20 else Int32.ofNat (tP T) - 1
noncomputable def laA (X : Nat → Nat) (L : Nat) (T : dvT) (c q : Nat) : (Nat × Nat) ⊕ (Nat × Nat) := nuR X L 0 (hiA T (laK X L q)) (laW X L T c q)
noncomputable def laB (X : Nat → Nat) (L : Nat) (T : dvT) (c q : Nat) : (Nat × Nat) ⊕ (Nat × Nat) := nuR X L (loB (laK X L q)) (hiB T (laK X L q)) (poR (laA X L T c q))
def psR (x : (Nat × Nat) ⊕ (Nat × Nat)) : Nat := match x with
  | .inl v => v.2
  | .inr _ => 0
/-- a street from a to c there -/
def isSt (T : dvT) (a c : Nat) : Prop := (nearS T a >>> (Int32.ofNat c &&& 31)) &&& 1 = 1
/-- two that may not be joined -/
def noSt (T : dvT) (a c : Nat) : Prop := a = c ∨ isSt T a c
noncomputable def laQ (X : Nat → Nat) (L : Nat) (T : dvT) (c q : Nat) : rsP := match laB X L T c q with
  | .inl z => @ite _ (noSt T (vaR (laA X L T c q)) z.1) (Classical.propDecidable _) (.inr (2, blS X L (psR (laA X L T c q)))) (.inl z.2)
  | .inr e => .inr e
noncomputable def laC (X : Nat → Nat) (L : Nat) (T : dvT) (c q : Nat) : rsP := if laK X L q = 0 ∨ laK X L q = 1 then poR (laB X L T c q) else if laK X L q = 2 then laQ X L T c q else poR (laA X L T c q)
noncomputable def laE (X : Nat → Nat) (L : Nat) (T : dvT) (c q : Nat) : rsP := sgR X L 59 (laC X L T c q)
noncomputable def laT (X : Nat → Nat) (L : Nat) (T : dvT) (c q : Nat) : dvT := if laK X L q = 0 then addP T (vaR (laA X L T c q)) (vaR (laB X L T c q)) else if laK X L q = 1 then addJ T (vaR (laA X L T c q)) (vaR (laB X L T c q)) else if laK X L q = 2 then addS T (vaR (laA X L T c q)) (vaR (laB X L T c q)) else if laK X L q = 3 then setG T (vaR (laA X L T c q)) else setD T (vaR (laA X L T c q))
noncomputable def laF (X : Nat → Nat) (L : Nat) : Nat → dvT → Nat → Nat → dvT ⊕ (Nat × Nat)
  | 0, T, _, _ => .inl T
  | n + 1, T, c, p => if p < L then (match laE X L T c p with
    | .inl p' => laF X L n (laT X L T c p) (c + 1) (blS X L p')
    | .inr e => .inr e) else .inl T
/-- nothing told yet -/
def t00 : dvT := (0, 0, 0, g00, g00, g00, 20, 2)
theorem t00_ok : tOK t00 := ⟨by decide, by decide, by decide, fun p hp => absurd hp (Nat.not_lt_zero p), fun p hp => absurd hp (Nat.not_lt_zero p), fun p hp => absurd hp (Nat.not_lt_zero p), by decide, by decide, by decide, by decide⟩
theorem near_addS {T : dvT} {a c p : Nat} : nearS (addS T a c) p = nearS T p ||| (if Int32.ofNat a = Int32.ofNat p then bI (Int32.ofNat c) else if Int32.ofNat c = Int32.ofNat p then bI (Int32.ofNat a) else 0) := by
  unfold nearS
  show itr _ 0 (tS T + 1) = _
  rw [← itr_s]
  have h0 : tst (addS T a c) (tS T) 0 = Int32.ofNat a := by show (if _ then _ else _) = _; rw [if_pos rfl, if_pos rfl]
  have h1 : tst (addS T a c) (tS T) 1 = Int32.ofNat c := by show (if _ then _ else _) = _; rw [if_pos rfl, if_neg (by omega)]
  have hr : itr (fun e x => x ||| (if tst (addS T a c) e 0 = Int32.ofNat p then bI (tst (addS T a c) e 1) else if tst (addS T a c) e 1 = Int32.ofNat p then bI (tst (addS T a c) e 0) else 0)) 0 (tS T) = itr (fun e x => x ||| (if tst T e 0 = Int32.ofNat p then bI (tst T e 1) else if tst T e 1 = Int32.ofNat p then bI (tst T e 0) else 0)) 0 (tS T) := itr_c fun k x hk => by
    have e : ∀ z, tst (addS T a c) k z = tst T k z := fun z => by show (if _ then _ else _) = _; rw [if_neg (by omega)]
    rw [e, e]
  rw [hr]
  show _ ||| (if tst (addS T a c) (tS T) 0 = Int32.ofNat p then bI (tst (addS T a c) (tS T) 1) else if tst (addS T a c) (tS T) 1 = Int32.ofNat p then bI (tst (addS T a c) (tS T) 0) else 0) = _
  rw [h0, h1]
theorem near_addP {T : dvT} {a c p : Nat} : nearS (addP T a c) p = nearS T p := rfl
theorem near_addJ {T : dvT} {a c p : Nat} : nearS (addJ T a c) p = nearS T p := rfl
theorem tOK_addP {T : dvT} {a c : Nat} (h : tOK T) (hP : tP T < 7) (ha : a ≤ 3) (hc : c ≤ 9) : tOK (addP T a c) := by
  obtain ⟨h1, h2, h3, h4, h5, h6, h7⟩ := h
  refine ⟨by show tP T + 1 ≤ 7; omega, h2, h3, fun p hp => ?_, h5, fun e he => ?_, h7⟩
  · have hp' : p < tP T + 1 := hp
    have e0 : tpe (addP T a c) p 0 = if p = tP T then Int32.ofNat a else tpe T p 0 := rfl
    have e1 : tpe (addP T a c) p 1 = if p = tP T then Int32.ofNat c else tpe T p 1 := rfl
    rw [e0, e1]
    by_cases e : p = tP T
    · rw [if_pos e, if_pos e, show (0 : Int32) = Int32.ofNat 0 from rfl, show (3 : Int32) = Int32.ofNat 3 from rfl, show (9 : Int32) = Int32.ofNat 9 from rfl, i_le (by omega) (by omega), i_le (by omega) (by omega), i_le (by omega) (by omega), i_le (by omega) (by omega)]
      omega
    · rw [if_neg e, if_neg e]; exact h4 p (by omega)
  · obtain ⟨x, y, q1, q2, q3⟩ := h6 e he
    exact ⟨x, y, Nat.lt_succ_of_lt q1, Nat.lt_succ_of_lt q2, q3⟩
theorem tOK_addJ {T : dvT} {a c : Nat} (h : tOK T) (hJ : tJ T < 6) (ha : a ≤ 9) : tOK (addJ T a c) := by
  obtain ⟨h1, h2, h3, h4, h5, h6⟩ := h
  refine ⟨h1, by show tJ T + 1 ≤ 6; omega, h3, h4, fun p hp => ?_, h6⟩
  have hp' : p < tJ T + 1 := hp
  have e0 : tjo (addJ T a c) p 0 = if p = tJ T then Int32.ofNat a else tjo T p 0 := rfl
  rw [e0]
  by_cases e : p = tJ T
  · rw [if_pos e, show (0 : Int32) = Int32.ofNat 0 from rfl, show (9 : Int32) = Int32.ofNat 9 from rfl, i_le (by omega) (by omega), i_le (by omega) (by omega)]
    omega
  · rw [if_neg e]; exact h5 p (by omega)
theorem tOK_addS {T : dvT} {a c : Nat} (h : tOK T) (hS : tS T < 12) (ha : a < tP T) (hc : c < tP T) (hne : a ≠ c) : tOK (addS T a c) := by
  obtain ⟨h1, h2, h3, h4, h5, h6, h7⟩ := h
  refine ⟨h1, h2, by show tS T + 1 ≤ 12; omega, h4, h5, fun p hp => ?_, h7⟩
  have hp' : p < tS T + 1 := hp
  have e0 : tst (addS T a c) p 0 = if p = tS T then Int32.ofNat a else tst T p 0 := rfl
  have e1 : tst (addS T a c) p 1 = if p = tS T then Int32.ofNat c else tst T p 1 := rfl
  by_cases e : p = tS T
  · exact ⟨a, c, ha, hc, hne, by rw [e0, if_pos e], by rw [e1, if_pos e]⟩
  · rw [e0, e1, if_neg e, if_neg e]; exact h6 p (by omega)
theorem tOK_setG {T : dvT} {v : Nat} (h : tOK T) (hv : v ≤ 200) : tOK (setG T v) := by
  obtain ⟨h1, h2, h3, h4, h5, h6, h7, h8, h9, h10⟩ := h
  refine ⟨h1, h2, h3, h4, h5, h6, h7, h8, ?_, ?_⟩
  · show (0 : Int32) ≤ Int32.ofNat v
    rw [show (0 : Int32) = Int32.ofNat 0 from rfl, i_le (by omega) (by omega)]; omega
  · show Int32.ofNat v ≤ (200 : Int32)
    rw [show (200 : Int32) = Int32.ofNat 200 from rfl, i_le (by omega) (by omega)]; omega
theorem tOK_setD {T : dvT} {v : Nat} (h : tOK T) (hv : v ≤ 9) : tOK (setD T v) := by
  obtain ⟨h1, h2, h3, h4, h5, h6, h7, h8, h9, h10⟩ := h
  refine ⟨h1, h2, h3, h4, h5, h6, ?_, ?_, h9, h10⟩
  · show (0 : Int32) ≤ Int32.ofNat v
    rw [show (0 : Int32) = Int32.ofNat 0 from rfl, i_le (by omega) (by omega)]; omega
  · show Int32.ofNat v ≤ (9 : Int32)
    rw [show (9 : Int32) = Int32.ofNat 9 from rfl, i_le (by omega) (by omega)]; omega
theorem swLand_cases (ws : List Nat) : (ws = kwPerson ∧ swv ws swLand = 0) ∨ (ws = kwJoke ∧ swv ws swLand = 1) ∨ (ws = kwStreet ∧ swv ws swLand = 2) ∨ (ws = kwJug ∧ swv ws swLand = 3) ∨ (ws = kwDrink ∧ swv ws swLand = 4) ∨ (swv ws swLand = -1 ∧ swv ws swFull = -1 ∧ swv ws swLand2 = -1) := by
  by_cases c1 : ws = kwPerson
  · subst c1; exact Or.inl ⟨rfl, by decide⟩
  by_cases c2 : ws = kwJoke
  · subst c2; exact Or.inr (Or.inl ⟨rfl, by decide⟩)
  by_cases c3 : ws = kwStreet
  · subst c3; exact Or.inr (Or.inr (Or.inl ⟨rfl, by decide⟩))
  by_cases c4 : ws = kwJug
  · subst c4; exact Or.inr (Or.inr (Or.inr (Or.inl ⟨rfl, by decide⟩)))
  by_cases c5 : ws = kwDrink
  · subst c5; exact Or.inr (Or.inr (Or.inr (Or.inr (Or.inl ⟨rfl, by decide⟩))))
  refine Or.inr (Or.inr (Or.inr (Or.inr (Or.inr ⟨?_, ?_, ?_⟩))))
  · simp only [swLand, swv, c1, c2, c3, c4, c5, if_false]
  · simp only [swFull, swv, c1, c2, c3, if_false]
  · simp only [swLand2, swv, c1, c2, c3, c4, if_false]
