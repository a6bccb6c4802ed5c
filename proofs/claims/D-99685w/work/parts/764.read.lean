/-! A LAND read: what the component has told so far; the reader lies at N, the told at N + 1 -/
def lT (b : Nat) (M : dwSt) (N : Nat) (T : dvT) : Prop := (b + 562 ≤ N ∧ N + 9 ≤ dwN M) ∧ dwK M (N + 1) = (0, 1) ∧ (dwR M (N + 1) 23 = some (N + 2) ∧ dwR M (N + 1) 24 = some (N + 4) ∧ dwR M (N + 1) 25 = some (N + 6) ∧ dwR M (N + 1) 26 = some (N + 7) ∧ dwR M (N + 1) 27 = some (N + 8)) ∧ (dwK M (N + 6) = (1, 7) ∧ dwK M (N + 7) = (1, 12) ∧ dwK M (N + 8) = (1, 12)) ∧ (∀ p, p < 7 → dwI M (N + 6) p = nearS T p) ∧ (∀ e, e < tS T → dwI M (N + 7) e = tst T e 0 ∧ dwI M (N + 8) e = tst T e 1) ∧ (dwI M (N + 1) 28 = Int32.ofNat (tS T) ∧ dwI M (N + 1) 29 = tjug T ∧ dwI M (N + 1) 30 = tdr T) ∧ ∃ e1 c1 g1 e2 c2 g2, rwL M (N + 2) (tP T) e1 c1 g1 ∧ (∀ p, p < tP T → N ≤ g1 p ∧ dwK M (g1 p) = (0, 6) ∧ dwI M (g1 p) 104 = tpe T p 0 ∧ dwI M (g1 p) 105 = tpe T p 1) ∧ rwL M (N + 4) (tJ T) e2 c2 g2 ∧ (∀ p, p < tJ T → N ≤ g2 p ∧ dwK M (g2 p) = (0, 7) ∧ dwI M (g2 p) 106 = tjo T p 0 ∧ dwI M (g2 p) 107 = tjo T p 1) ∧ e1 ≠ e2 ∧ N < e1 ∧ N < e2
theorem rwL_fr {S Z : Nat → Nat → Prop} {n' u l n e cap : Nat} {g : Nat → Nat} {M M1 : dwSt} (h : rwL M l n e cap g) (f : fr S Z n' u M M1) (h1 : ¬ S l 126) (h2 : ¬ Z l 125) (h3 : ∀ k, ¬ Z e k) : rwL M1 l n e cap g := by
  obtain ⟨q1, q2, q3, q4, q5, q6, q7, q8⟩ := h
  have := f.n
  refine ⟨(f.k q7.1).trans q1, (f.i q7.1 h1).trans q2, (f.r q7.1 h2).trans q3, (f.k q7.2).trans q4, q5, q6, ⟨by omega, by omega⟩, fun p hp => ?_⟩
  obtain ⟨z1, z2, ci, z3, z4⟩ := q8 p hp
  exact ⟨(f.r q7.2 (h3 _)).trans z1, by omega, ci, (f.k z2).trans z3, z4⟩
section LAND
variable {b : Nat} {M : dwSt} {A : dvA} {ρ : Type} {N : Nat} {T : dvT}
/-- nothing told is written -/
def frL (S : Nat → Nat → Prop) (M : dwSt) : Prop := ∀ a k, a < dwN M → S a k → dwK M a = (0, 4) ∨ dwK M a = (0, 28)
theorem frL_n {S : Nat → Nat → Prop} (h : frL S M) {a x y : Nat} (ha : a < dwN M) (hk : dwK M a = (x, y)) (hn : ¬ x = 0 ∨ (¬ y = 4 ∧ ¬ y = 28)) : ∀ k, ¬ S a k := fun k q => by
  rcases h a k ha q with z | z
  · rw [hk] at z
    have z1 : x = 0 := congrArg Prod.fst z
    have z2 : y = 4 := congrArg Prod.snd z
    omega
  · rw [hk] at z
    have z1 : x = 0 := congrArg Prod.fst z
    have z2 : y = 28 := congrArg Prod.snd z
    omega
theorem lT_fr {S Z : Nat → Nat → Prop} {n u : Nat} {M1 : dwSt} (h : lT b M N T) (f : fr S Z n u M M1) (hS : frL S M) (hZ : frL Z M) : lT b M1 N T := by
  obtain ⟨⟨hb, hN⟩, k1, ⟨r1, r2, r3, r4, r5⟩, ⟨k6, k7, k8⟩, i6, i7, ⟨j1, j2, j3⟩, e1, c1, g1, e2, c2, g2, w1, p1, w2, p2, q1, q2, q3⟩ := h
  have hn := f.n
  have s1 := frL_n hS (show N + 1 < dwN M by omega) k1 (by omega)
  have z1 := frL_n hZ (show N + 1 < dwN M by omega) k1 (by omega)
  have s6 := frL_n hS (show N + 6 < dwN M by omega) k6 (by omega)
  have s7 := frL_n hS (show N + 7 < dwN M by omega) k7 (by omega)
  have s8 := frL_n hS (show N + 8 < dwN M by omega) k8 (by omega)
  refine ⟨⟨hb, by omega⟩, (f.k (by omega)).trans k1, ⟨(f.r (by omega) (z1 _)).trans r1, (f.r (by omega) (z1 _)).trans r2, (f.r (by omega) (z1 _)).trans r3, (f.r (by omega) (z1 _)).trans r4, (f.r (by omega) (z1 _)).trans r5⟩, ⟨(f.k (by omega)).trans k6, (f.k (by omega)).trans k7, (f.k (by omega)).trans k8⟩, fun p hp => (f.i (by omega) (s6 _)).trans (i6 p hp), fun e he => ⟨(f.i (by omega) (s7 _)).trans (i7 e he).1, (f.i (by omega) (s8 _)).trans (i7 e he).2⟩, ⟨(f.i (by omega) (s1 _)).trans j1, (f.i (by omega) (s1 _)).trans j2, (f.i (by omega) (s1 _)).trans j3⟩, e1, c1, g1, e2, c2, g2, rwL_fr w1 f (frL_n hS w1.2.2.2.2.2.2.1.1 w1.1 (by omega) _) (frL_n hZ w1.2.2.2.2.2.2.1.1 w1.1 (by omega) _) (frL_n hZ w1.2.2.2.2.2.2.1.2 w1.2.2.2.1 (by omega)), fun p hp => ?_, rwL_fr w2 f (frL_n hS w2.2.2.2.2.2.2.1.1 w2.1 (by omega) _) (frL_n hZ w2.2.2.2.2.2.2.1.1 w2.1 (by omega) _) (frL_n hZ w2.2.2.2.2.2.2.1.2 w2.2.2.2.1 (by omega)), fun p hp => ?_, q1, q2, q3⟩
  · obtain ⟨z1, z2, z3, z4⟩ := p1 p hp
    have hl := (w1.2.2.2.2.2.2.2 p hp).2.1
    have s := frL_n hS hl z2 (by omega)
    exact ⟨z1, (f.k hl).trans z2, (f.i hl (s _)).trans z3, (f.i hl (s _)).trans z4⟩
  · obtain ⟨z1, z2, z3, z4⟩ := p2 p hp
    have hl := (w2.2.2.2.2.2.2.2 p hp).2.1
    have s := frL_n hS hl z2 (by omega)
    exact ⟨z1, (f.k hl).trans z2, (f.i hl (s _)).trans z3, (f.i hl (s _)).trans z4⟩
theorem kne {M : dwSt} {a c x y x' y' : Nat} (h1 : dwK M a = (x, y)) (h2 : dwK M c = (x', y')) (h : ¬ x = x' ∨ ¬ y = y') : a ≠ c := fun e => by
  rw [e, h2] at h1
  have z1 : x' = x := congrArg Prod.fst h1
  have z2 : y' = y := congrArg Prod.snd h1
  omega
theorem lT_addP {q d t : Nat} (h : lT b M N T) (hP : tP T < 7) (hq : dwK M q = (0, 6)) (hqN : q < dwN M) (hNq : N ≤ q) (h104 : dwI M q 104 = Int32.ofNat d) (h105 : dwI M q 105 = Int32.ofNat t) (hR : room M 1 150) : ∃ M2, m_J2_add M (N + 2) q = some (1, M2) ∧ fr (atN (N + 1)) (atN (N + 1)) 1 150 M M2 ∧ lT b M2 N (addP T d t) ∧ dwI M2 (N + 1) 31 = dwI M (N + 1) 31 := by
  obtain ⟨⟨hb, hN⟩, k1, ⟨r1, r2, r3, r4, r5⟩, ⟨k6, k7, k8⟩, i6, i7, ⟨j1, j2, j3⟩, e1, c1, g1, e2, c2, g2, w1, p1, w2, p2, q1, q2, q3⟩ := h
  obtain ⟨M2, e', cap', e, f, w1', he'⟩ := c_add w1 hq rfl hqN (by omega) hR
  have ke1 := w1.2.2.2.1
  have kl2 := w2.1
  have ke2 := w2.2.2.2.1
  have hN2 := w2.2.2.2.2.2.2.1
  have n1 := kne k1 ke1 (by omega)
  have n4 := kne kl2 ke1 (by omega)
  have hn := f.n
  have hn1 := f.nn
  have si : ∀ a k, a < dwN M → a ≠ N + 2 → dwI M2 a k = dwI M a k := fun a k ha hne => f.i ha (fun z => hne z.1)
  refine ⟨M2, e, f.mono (fun a k z => by show N + 1 ≤ a; have := z.1; omega) (fun a k z => by show N + 1 ≤ a; omega) (Nat.le_refl _) (Nat.le_refl _), ⟨⟨hb, by omega⟩, (f.k (by omega)).trans k1, ⟨(f.r (by omega) (by omega)).trans r1, (f.r (by omega) (by omega)).trans r2, (f.r (by omega) (by omega)).trans r3, (f.r (by omega) (by omega)).trans r4, (f.r (by omega) (by omega)).trans r5⟩, ⟨(f.k (by omega)).trans k6, (f.k (by omega)).trans k7, (f.k (by omega)).trans k8⟩, fun p hp => (si _ _ (by omega) (by omega)).trans (i6 p hp), fun e he => ⟨(si _ _ (by omega) (by omega)).trans (i7 e he).1, (si _ _ (by omega) (by omega)).trans (i7 e he).2⟩, ⟨(si _ _ (by omega) (by omega)).trans j1, (si _ _ (by omega) (by omega)).trans j2, (si _ _ (by omega) (by omega)).trans j3⟩, e', cap', _, e2, c2, g2, w1', fun p hp => ?_, rwL_fr w2 f (by omega) (by omega) (fun k => by have := kne ke2 w1.1 (by omega); omega), fun p hp => ?_, ?_, ?_, q3⟩, si _ _ (by omega) (by omega)⟩
  · have hp' : p < tP T + 1 := hp
    have E0 : tpe (addP T d t) p 0 = if p = tP T then Int32.ofNat d else tpe T p 0 := rfl
    have E1 : tpe (addP T d t) p 1 = if p = tP T then Int32.ofNat t else tpe T p 1 := rfl
    rw [E0, E1]
    by_cases ep : p = tP T
    · rw [if_pos ep, if_pos ep, if_pos ep]
      have := kne hq w1.1 (by omega)
      exact ⟨hNq, (f.k hqN).trans hq, (si _ _ hqN this).trans h104, (si _ _ hqN this).trans h105⟩
    · rw [if_neg ep, if_neg ep, if_neg ep]
      obtain ⟨z1, z2, z3, z4⟩ := p1 p (by omega)
      have hl := (w1.2.2.2.2.2.2.2 p (by omega)).2.1
      have := kne z2 w1.1 (by omega)
      exact ⟨z1, (f.k hl).trans z2, (si _ _ hl this).trans z3, (si _ _ hl this).trans z4⟩
  · obtain ⟨z1, z2, z3, z4⟩ := p2 p hp
    have hl := (w2.2.2.2.2.2.2.2 p hp).2.1
    have := kne z2 w1.1 (by omega)
    exact ⟨z1, (f.k hl).trans z2, (si _ _ hl this).trans z3, (si _ _ hl this).trans z4⟩
  · omega
  · omega
theorem lT_addJ {q d t : Nat} (h : lT b M N T) (hJ : tJ T < 6) (hq : dwK M q = (0, 7)) (hqN : q < dwN M) (hNq : N ≤ q) (h106 : dwI M q 106 = Int32.ofNat d) (h107 : dwI M q 107 = Int32.ofNat t) (hR : room M 1 150) : ∃ M2, m_J2_add M (N + 4) q = some (1, M2) ∧ fr (atN (N + 1)) (atN (N + 1)) 1 150 M M2 ∧ lT b M2 N (addJ T d t) ∧ dwI M2 (N + 1) 31 = dwI M (N + 1) 31 := by
  obtain ⟨⟨hb, hN⟩, k1, ⟨r1, r2, r3, r4, r5⟩, ⟨k6, k7, k8⟩, i6, i7, ⟨j1, j2, j3⟩, e1, c1, g1, e2, c2, g2, w1, p1, w2, p2, q1, q2, q3⟩ := h
  obtain ⟨M2, e', cap', e, f, w2', he'⟩ := c_add w2 hq rfl hqN (by omega) hR
  have ke1 := w1.2.2.2.1
  have kl1 := w1.1
  have ke2 := w2.2.2.2.1
  have hN1 := w1.2.2.2.2.2.2.1
  have n1 := kne k1 ke2 (by omega)
  have n4 := kne kl1 ke2 (by omega)
  have hn := f.n
  have hn1 := f.nn
  have si : ∀ a k, a < dwN M → a ≠ N + 4 → dwI M2 a k = dwI M a k := fun a k ha hne => f.i ha (fun z => hne z.1)
  refine ⟨M2, e, f.mono (fun a k z => by show N + 1 ≤ a; have := z.1; omega) (fun a k z => by show N + 1 ≤ a; omega) (Nat.le_refl _) (Nat.le_refl _), ⟨⟨hb, by omega⟩, (f.k (by omega)).trans k1, ⟨(f.r (by omega) (by omega)).trans r1, (f.r (by omega) (by omega)).trans r2, (f.r (by omega) (by omega)).trans r3, (f.r (by omega) (by omega)).trans r4, (f.r (by omega) (by omega)).trans r5⟩, ⟨(f.k (by omega)).trans k6, (f.k (by omega)).trans k7, (f.k (by omega)).trans k8⟩, fun p hp => (si _ _ (by omega) (by omega)).trans (i6 p hp), fun e he => ⟨(si _ _ (by omega) (by omega)).trans (i7 e he).1, (si _ _ (by omega) (by omega)).trans (i7 e he).2⟩, ⟨(si _ _ (by omega) (by omega)).trans j1, (si _ _ (by omega) (by omega)).trans j2, (si _ _ (by omega) (by omega)).trans j3⟩, e1, c1, g1, e', cap', _, rwL_fr w1 f (by omega) (by omega) (fun k => by have := kne ke1 w2.1 (by omega); omega), fun p hp => ?_, w2', fun p hp => ?_, ?_, q2, ?_⟩, si _ _ (by omega) (by omega)⟩
  · obtain ⟨z1, z2, z3, z4⟩ := p1 p hp
    have hl := (w1.2.2.2.2.2.2.2 p hp).2.1
    have := kne z2 w2.1 (by omega)
    exact ⟨z1, (f.k hl).trans z2, (si _ _ hl this).trans z3, (si _ _ hl this).trans z4⟩
  · have hp' : p < tJ T + 1 := hp
    have E0 : tjo (addJ T d t) p 0 = if p = tJ T then Int32.ofNat d else tjo T p 0 := rfl
    have E1 : tjo (addJ T d t) p 1 = if p = tJ T then Int32.ofNat t else tjo T p 1 := rfl
    rw [E0, E1]
    by_cases ep : p = tJ T
    · rw [if_pos ep, if_pos ep, if_pos ep]
      have := kne hq w2.1 (by omega)
      exact ⟨hNq, (f.k hqN).trans hq, (si _ _ hqN this).trans h106, (si _ _ hqN this).trans h107⟩
    · rw [if_neg ep, if_neg ep, if_neg ep]
      obtain ⟨z1, z2, z3, z4⟩ := p2 p (by omega)
      have hl := (w2.2.2.2.2.2.2.2 p (by omega)).2.1
      have := kne z2 w2.1 (by omega)
      exact ⟨z1, (f.k hl).trans z2, (si _ _ hl this).trans z3, (si _ _ hl this).trans z4⟩
  · omega
  · omega
/-- an int of the told itself written -/
theorem lT_set {f : Nat} {v : Int32} {T' : dvT} (h : lT b M N T) (hf : f = 29 ∨ f = 30 ∨ f = 31) (hT : tP T' = tP T ∧ tJ T' = tJ T ∧ tS T' = tS T ∧ tpe T' = tpe T ∧ tjo T' = tjo T ∧ tst T' = tst T) (h29 : tjug T' = if f = 29 then v else tjug T) (h30 : tdr T' = if f = 30 then v else tdr T) : lT b (dwPI M (N + 1) f v) N T' := by
  obtain ⟨⟨hb, hN⟩, k1, ⟨r1, r2, r3, r4, r5⟩, ⟨k6, k7, k8⟩, i6, i7, ⟨j1, j2, j3⟩, e1, c1, g1, e2, c2, g2, w1, p1, w2, p2, q1, q2, q3⟩ := h
  obtain ⟨t1, t2, t3, t4, t5, t6⟩ := hT
  have f1 : fr (fun a k => a = N + 1) nz 0 0 M (dwPI M (N + 1) f v) := (fr.refl M).pI _ (Or.inl rfl)
  refine ⟨⟨hb, hN⟩, k1, ⟨r1, r2, r3, r4, r5⟩, ⟨k6, k7, k8⟩, fun p hp => ?_, fun e he => ?_, ⟨?_, ?_, ?_⟩, e1, c1, g1, e2, c2, g2, ?_, fun p hp => ?_, ?_, fun p hp => ?_, q1, q2, q3⟩
  · rw [di_ne (by omega), i6 p hp]
    unfold nearS
    rw [t3, t6]
  · rw [t3] at he
    rw [di_ne (by omega), di_ne (by omega), t6]; exact i7 e he
  · rw [di_ne (by omega), t3]; exact j1
  · rw [di_PI, h29]
    by_cases e : f = 29
    · rw [if_pos ⟨rfl, e.symm⟩, if_pos e]
    · rw [if_neg (fun z => e z.2.symm), if_neg e]; exact j2
  · rw [di_PI, h30]
    by_cases e : f = 30
    · rw [if_pos ⟨rfl, e.symm⟩, if_pos e]
    · rw [if_neg (fun z => e z.2.symm), if_neg e]; exact j3
  · rw [t1]; exact rwL_fr w1 f1 (by omega) (fun z => z) (fun k z => z)
  · rw [t1] at hp
    obtain ⟨z1, z2, z3, z4⟩ := p1 p hp
    have := kne z2 k1 (by omega)
    rw [t4]
    exact ⟨z1, z2, by rw [di_ne (Or.inl this)]; exact z3, by rw [di_ne (Or.inl this)]; exact z4⟩
  · rw [t2]; exact rwL_fr w2 f1 (by omega) (fun z => z) (fun k z => z)
  · rw [t2] at hp
    obtain ⟨z1, z2, z3, z4⟩ := p2 p hp
    have := kne z2 k1 (by omega)
    rw [t5]
    exact ⟨z1, z2, by rw [di_ne (Or.inl this)]; exact z3, by rw [di_ne (Or.inl this)]; exact z4⟩
theorem lT_leads {a c : Nat} (h : lT b M N T) (hS : tS T < 12) (ha : a < 7) (hc : c < 7) (hne : a ≠ c) : ∃ M2, m_X2_leads M (N + 1) (Int32.ofNat a) (Int32.ofNat c) = some ((), M2) ∧ fr (atN (N + 1)) nz 0 0 M M2 ∧ lT b M2 N (addS T a c) ∧ dwI M2 (N + 1) 31 = dwI M (N + 1) 31 := by
  obtain ⟨⟨hb, hN⟩, k1, ⟨r1, r2, r3, r4, r5⟩, ⟨k6, k7, k8⟩, i6, i7, ⟨j1, j2, j3⟩, e1, c1, g1, e2, c2, g2, w1, p1, w2, p2, q1, q2, q3⟩ := h
  have G25 : ∀ {σ : Type} (M' : dwSt) (K : Nat → Option σ), dwK M' (N + 1) = (0, 1) → dwR M' (N + 1) 25 = some (N + 6) → xgR M' 25 (N + 1) K = K (N + 6) := fun M' K h1 h2 => xgR_v (by rw [h1]; rfl) h2 K
  have G26 : ∀ {σ : Type} (M' : dwSt) (K : Nat → Option σ), dwK M' (N + 1) = (0, 1) → dwR M' (N + 1) 26 = some (N + 7) → xgR M' 26 (N + 1) K = K (N + 7) := fun M' K h1 h2 => xgR_v (by rw [h1]; rfl) h2 K
  have G27 : ∀ {σ : Type} (M' : dwSt) (K : Nat → Option σ), dwK M' (N + 1) = (0, 1) → dwR M' (N + 1) 27 = some (N + 8) → xgR M' 27 (N + 1) K = K (N + 8) := fun M' K h1 h2 => xgR_v (by rw [h1]; rfl) h2 K
  have F : fr (fun x k => (x = N + 1 ∧ k = 28) ∨ x = N + 6 ∨ x = N + 7 ∨ x = N + 8) nz 0 0 M (dwPI (dwPI (dwPI (dwPI (dwPI M (N + 7) (tS T) (Int32.ofNat a)) (N + 8) (tS T) (Int32.ofNat c)) (N + 6) a (nearS T a ||| bI (Int32.ofNat c))) (N + 6) c (nearS T c ||| bI (Int32.ofNat a))) (N + 1) 28 (Int32.ofNat (tS T + 1))) := (((((fr.refl M).pI _ (Or.inl (Or.inr (Or.inr (Or.inl rfl))))).pI _ (Or.inl (Or.inr (Or.inr (Or.inr rfl))))).pI _ (Or.inl (Or.inr (Or.inl rfl)))).pI _ (Or.inl (Or.inr (Or.inl rfl)))).pI _ (Or.inl (Or.inl ⟨rfl, rfl⟩))
  refine ⟨_, ?_, F.mono (fun x k z => by show N + 1 ≤ x; omega) (fun _ _ z => z) (Nat.le_refl _) (Nat.le_refl _), ⟨⟨hb, hN⟩, k1, ⟨r1, r2, r3, r4, r5⟩, ⟨k6, k7, k8⟩, fun p hp => ?_, fun e he => ?_, ⟨di_eq, ?_, ?_⟩, e1, c1, g1, e2, c2, g2, ?_, fun p hp => ?_, ?_, fun p hp => ?_, q1, q2, q3⟩, ?_⟩
  · unfold m_X2_leads
    rw [G26 _ _ (by exact k1) (by exact r4), xgI_u (by rw [k1]; rfl), j1, xsI_u (by rw [k7]) (by rw [k7]; exact inb_n hS (by omega)), i_nat (by omega), G27 _ _ (by exact k1) (by exact r5), xgI_u (by rw [dk_PI, k1]; rfl), di_ne (by omega), j1, xsI_u (by rw [dk_PI, k8]) (by rw [dk_PI, k8]; exact inb_n hS (by omega)), i_nat (by omega), G25 _ _ (by exact k1) (by exact r3), xaI_u (by rw [dk_PI, dk_PI, k6]) (by rw [dk_PI, dk_PI, k6]; exact inb_n ha (by omega)), i_nat (by omega), di_ne (by omega), di_ne (by omega), i6 a ha, xsI_u (by rw [dk_PI, dk_PI, k6]) (by rw [dk_PI, dk_PI, k6]; exact inb_n ha (by omega)), i_nat (by omega), G25 _ _ (by exact k1) (by exact r3), xaI_u (by rw [dk_PI, dk_PI, dk_PI, k6]) (by rw [dk_PI, dk_PI, dk_PI, k6]; exact inb_n hc (by omega)), i_nat (show c < 2147483648 by omega), di_ne (by omega), di_ne (by omega), di_ne (by omega), i6 c hc, xsI_u (by rw [dk_PI, dk_PI, dk_PI, k6]) (by rw [dk_PI, dk_PI, dk_PI, k6]; exact inb_n hc (by omega)), i_nat (show c < 2147483648 by omega), xgI_u (by rw [dk_PI, dk_PI, dk_PI, dk_PI, k1]; rfl), di_ne (by omega), di_ne (by omega), di_ne (by omega), di_ne (by omega), j1, i_succ, xpI_u (by rw [dk_PI, dk_PI, dk_PI, dk_PI, k1]; rfl)]
    rfl
  · rw [near_addS, di_ne (by omega), di_PI]
    by_cases ec : p = c
    · subst ec
      rw [if_pos ⟨rfl, rfl⟩, if_neg (by rw [i_inj (by omega) (by omega)]; exact hne), if_pos rfl]
    · rw [if_neg (fun z => ec z.2), di_PI]
      by_cases ea : p = a
      · subst ea
        rw [if_pos ⟨rfl, rfl⟩, if_pos rfl]
      · rw [if_neg (fun z => ea z.2), di_ne (by omega), di_ne (by omega), if_neg (by rw [i_inj (by omega) (by omega)]; exact fun z => ea z.symm), if_neg (by rw [i_inj (by omega) (by omega)]; exact fun z => ec z.symm), i6 p hp]
        exact (Int32.or_zero).symm
  · have he' : e < tS T + 1 := he
    have E0 : tst (addS T a c) e 0 = if e = tS T then Int32.ofNat a else tst T e 0 := rfl
    have E1 : tst (addS T a c) e 1 = if e = tS T then Int32.ofNat c else tst T e 1 := rfl
    rw [E0, E1]
    by_cases ep : e = tS T
    · rw [if_pos ep, if_pos ep]
      constructor
      · rw [di_ne (by omega), di_ne (by omega), di_ne (by omega), di_ne (by omega), di_PI, if_pos ⟨rfl, ep⟩]
      · rw [di_ne (by omega), di_ne (by omega), di_ne (by omega), di_PI, if_pos ⟨rfl, ep⟩]
    · rw [if_neg ep, if_neg ep]
      simp (disch := omega) only [di_ne]
      exact i7 e (by omega)
  · simp (disch := omega) only [di_ne]; exact j2
  · simp (disch := omega) only [di_ne]; exact j3
  · exact rwL_fr w1 F (by omega) (fun z => z) (fun k z => z)
  · obtain ⟨z1, z2, z3, z4⟩ := p1 p hp
    have hl := (w1.2.2.2.2.2.2.2 p hp).2.1
    have m1 := kne z2 k1 (by omega)
    have m6 := kne z2 k6 (by omega)
    have m7 := kne z2 k7 (by omega)
    have m8 := kne z2 k8 (by omega)
    exact ⟨z1, z2, (F.i hl (by omega)).trans z3, (F.i hl (by omega)).trans z4⟩
  · exact rwL_fr w2 F (by omega) (fun z => z) (fun k z => z)
  · obtain ⟨z1, z2, z3, z4⟩ := p2 p hp
    have hl := (w2.2.2.2.2.2.2.2 p hp).2.1
    have m1 := kne z2 k1 (by omega)
    have m6 := kne z2 k6 (by omega)
    have m7 := kne z2 k7 (by omega)
    have m8 := kne z2 k8 (by omega)
    exact ⟨z1, z2, (F.i hl (by omega)).trans z3, (F.i hl (by omega)).trans z4⟩
  · simp (disch := omega) only [di_ne]
end LAND
