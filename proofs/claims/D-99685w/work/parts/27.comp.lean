/-! THE COMPONENT's picture; w: whose a cell is (1 the told's, 2 the law's, 10.. a season's) -/
/-- none of the cells that calls write in place -/
def imf (b a : Nat) : Prop := a ≠ b ∧ ¬ (b + 20 ≤ a ∧ a ≤ b + 42) ∧ ¬ (b + 54 ≤ a ∧ a ≤ b + 561)
def own (b : Nat) (w : Nat → Nat) (M : dwSt) (o a : Nat) : Prop := w a = o ∧ imf b a ∧ a < dwN M
/-- a list of objects of class ci at l: n of them, field by field -/
def cList (b : Nat) (w : Nat → Nat) (M : dwSt) (l n ci f0 f1 : Nat) (g : Nat → Nat → Int32) : Prop :=
  own b w M 1 l ∧ dwK M l = (0, 26) ∧ dwI M l 126 = Int32.ofNat n ∧ ∃ e cap, own b w M 1 e ∧ dwR M l 125 = some e ∧ dwK M e = (6, cap) ∧ n ≤ cap ∧ (0 < cap ∧ cap < 1000) ∧ ∀ p, p < n → ∃ q, own b w M 1 q ∧ dwR M e p = some q ∧ dwK M q = (0, ci) ∧ dwI M q f0 = g p 0 ∧ dwI M q f1 = g p 1
def cToldAt (b : Nat) (w : Nat → Nat) (M : dwSt) (d : Nat) (T : dvT) : Prop :=
  own b w M 1 d ∧ dwK M d = (0, 1) ∧ (∃ l, dwR M d 23 = some l ∧ cList b w M l (tP T) 6 104 105 (tpe T)) ∧ (∃ l, dwR M d 24 = some l ∧ cList b w M l (tJ T) 7 106 107 (tjo T)) ∧
  (∃ x, own b w M 1 x ∧ dwR M d 25 = some x ∧ dwK M x = (1, 7) ∧ ∀ p, p < 7 → dwI M x p = nearS T p) ∧
  (∃ x, own b w M 1 x ∧ dwR M d 26 = some x ∧ dwK M x = (1, 12) ∧ ∀ e, e < tS T → dwI M x e = tst T e 0) ∧ (∃ x, own b w M 1 x ∧ dwR M d 27 = some x ∧ dwK M x = (1, 12) ∧ ∀ e, e < tS T → dwI M x e = tst T e 1) ∧
  dwI M d 28 = Int32.ofNat (tS T) ∧ dwI M d 29 = tjug T ∧ dwI M d 30 = tdr T
def cTold (b : Nat) (w : Nat → Nat) (M : dwSt) (T : dvT) : Prop := ∃ d, dwR M b 0 = some d ∧ cToldAt b w M d T ∧ tOK T
/-- the class of a term of two -/
def opC (o : Int32) (ci : Nat) : Prop := (o = 2 ∧ ci = 19) ∨ (o = 3 ∧ ci = 11) ∨ (o = 4 ∧ ci = 13) ∨ (o = 5 ∧ ci = 17) ∨ (o = 6 ∧ ci = 18) ∨ (o = 7 ∧ ci = 15) ∨ (o = 8 ∧ ci = 16)
/-- a term at a comes to v -/
def tma (b : Nat) (w : Nat → Nat) (M : dwSt) (f : Nat → Int32) : Nat → Nat → Int32 → Prop
  | 0, _, _ => False
  | d + 1, a, v => own b w M 2 a ∧ ((dwK M a = (0, 14) ∧ v = dwI M a 115) ∨ (dwK M a = (0, 12) ∧ ∃ k, k < 10 ∧ dwI M a 114 = Int32.ofNat k ∧ v = f k) ∨ (∃ o ci x y v1 v2, opC o ci ∧ dwK M a = (0, ci) ∧ dwR M a 112 = some x ∧ dwR M a 113 = some y ∧ tma b w M f d x v1 ∧ tma b w M f d y v2 ∧ v = opS o v1 v2))
def cLaw (b : Nat) (w : Nat → Nat) (M : dwSt) (lw : (Nat → Int32) → Int32) : Prop := lext lw ∧ ∃ l d, d ≤ 200 ∧ dwR M b 1 = some l ∧ ∀ f, tma b w M f d l (lw f)
def cEnv (b : Nat) (w : Nat → Nat) (M : dwSt) (T : dvT) (lw : (Nat → Int32) → Int32) : Prop := Sh b M ∧ cTold b w M T ∧ cLaw b w M lw
/-- no place of S is of the told or the law -/
def cFree (b : Nat) (w : Nat → Nat) (S : Nat → Nat → Prop) : Prop := ∀ a k, S a k → imf b a → w a ≠ 1 ∧ w a ≠ 2
section FRC
variable {b n u : Nat} {w : Nat → Nat} {S Z : Nat → Nat → Prop} {M M' : dwSt} {T : dvT} {lw : (Nat → Int32) → Int32}
theorem own.fr {o a : Nat} (h : own b w M o a) (f : fr S Z n u M M') : own b w M' o a := ⟨h.1, h.2.1, Nat.lt_of_lt_of_le h.2.2 f.n⟩
theorem own1_n {a : Nat} (h : own b w M 1 a) (hS : cFree b w S) : ∀ k, ¬ S a k := fun k q => (hS a k q h.2.1).1 h.1
theorem own2_n {a : Nat} (h : own b w M 2 a) (hS : cFree b w S) : ∀ k, ¬ S a k := fun k q => (hS a k q h.2.1).2 h.1
theorem cList.fr {l m ci f0 f1 : Nat} {g : Nat → Nat → Int32} (h : cList b w M l m ci f0 f1 g) (f : fr S Z n u M M') (hS : cFree b w S) (hZ : cFree b w Z) : cList b w M' l m ci f0 f1 g := by
  obtain ⟨h1, h2, h3, e, cap, h4, h5, h6, h7, h8, h9⟩ := h
  refine ⟨h1.fr f, (f.k h1.2.2).trans h2, (f.i h1.2.2 (own1_n h1 hS _)).trans h3, e, cap, h4.fr f, (f.r h1.2.2 (own1_n h1 hZ _)).trans h5, (f.k h4.2.2).trans h6, h7, h8, fun p hp => ?_⟩
  obtain ⟨q, q1, q2, q3, q4, q5⟩ := h9 p hp
  exact ⟨q, q1.fr f, (f.r h4.2.2 (own1_n h4 hZ _)).trans q2, (f.k q1.2.2).trans q3, (f.i q1.2.2 (own1_n q1 hS _)).trans q4, (f.i q1.2.2 (own1_n q1 hS _)).trans q5⟩
theorem cToldAt.fr {d : Nat} (h : cToldAt b w M d T) (f : fr S Z n u M M') (hS : cFree b w S) (hZ : cFree b w Z) : cToldAt b w M' d T := by
  obtain ⟨h1, h2, ⟨l, a1, a2⟩, ⟨l', a3, a4⟩, ⟨x, b1, b2, b3, b4⟩, ⟨y, c1, c2, c3, c4⟩, ⟨z, d1, d2, d3, d4⟩, e1, e2, e3⟩ := h
  have hr : ∀ k, dwR M' d k = dwR M d k := fun k => f.r h1.2.2 (own1_n h1 hZ _)
  have hi : ∀ k, dwI M' d k = dwI M d k := fun k => f.i h1.2.2 (own1_n h1 hS _)
  exact ⟨h1.fr f, (f.k h1.2.2).trans h2, ⟨l, (hr _).trans a1, a2.fr f hS hZ⟩, ⟨l', (hr _).trans a3, a4.fr f hS hZ⟩,
    ⟨x, b1.fr f, (hr _).trans b2, (f.k b1.2.2).trans b3, fun p hp => (f.i b1.2.2 (own1_n b1 hS _)).trans (b4 p hp)⟩,
    ⟨y, c1.fr f, (hr _).trans c2, (f.k c1.2.2).trans c3, fun p hp => (f.i c1.2.2 (own1_n c1 hS _)).trans (c4 p hp)⟩,
    ⟨z, d1.fr f, (hr _).trans d2, (f.k d1.2.2).trans d3, fun p hp => (f.i d1.2.2 (own1_n d1 hS _)).trans (d4 p hp)⟩,
    (hi _).trans e1, (hi _).trans e2, (hi _).trans e3⟩
theorem tma.fr {f : Nat → Int32} (fm : fr S Z n u M M') (hS : cFree b w S) (hZ : cFree b w Z) : ∀ (d a : Nat) (v : Int32), tma b w M f d a v → tma b w M' f d a v := by
  intro d
  induction d with
  | zero => intro a v h; exact h
  | succ d ih =>
    intro a v h
    obtain ⟨h0, h⟩ := h
    refine ⟨h0.fr fm, ?_⟩
    rcases h with ⟨h1, h2⟩ | ⟨h1, k, h2, h3, h4⟩ | ⟨o, ci, x, y, v1, v2, h1, h2, h3, h4, h5, h6, h7⟩
    · exact Or.inl ⟨(fm.k h0.2.2).trans h1, by rw [fm.i h0.2.2 (own2_n h0 hS _)]; exact h2⟩
    · exact Or.inr (Or.inl ⟨(fm.k h0.2.2).trans h1, k, h2, (fm.i h0.2.2 (own2_n h0 hS _)).trans h3, h4⟩)
    · exact Or.inr (Or.inr ⟨o, ci, x, y, v1, v2, h1, (fm.k h0.2.2).trans h2, (fm.r h0.2.2 (own2_n h0 hZ _)).trans h3, (fm.r h0.2.2 (own2_n h0 hZ _)).trans h4, ih _ _ h5, ih _ _ h6, h7⟩)
theorem cTold.fr (hs : Sh b M) (h : cTold b w M T) (f : fr S Z n u M M') (hS : cFree b w S) (hZ : cFree b w Z) (hb : ¬ Z b 0) : cTold b w M' T := by
  have := shN hs
  obtain ⟨d, h1, h2, h3⟩ := h
  exact ⟨d, (f.r (by omega) hb).trans h1, h2.fr f hS hZ, h3⟩
theorem cLaw.fr (hs : Sh b M) (h : cLaw b w M lw) (f : fr S Z n u M M') (hS : cFree b w S) (hZ : cFree b w Z) (hb : ¬ Z b 1) : cLaw b w M' lw := by
  have := shN hs
  obtain ⟨he, l, d, h1, h2, h3⟩ := h
  exact ⟨he, l, d, h1, (f.r (by omega) hb).trans h2, fun g => tma.fr f hS hZ _ _ _ (h3 g)⟩
theorem nz_f : cFree b w nz := fun _ _ h => False.elim h
theorem cEnv.fr (h : cEnv b w M T lw) (f : fr S nz n u M M') (hS : cFree b w S) : cEnv b w M' T lw :=
  ⟨h.1.fr f nz_p, h.2.1.fr h.1 f hS nz_f (fun q => q), h.2.2.fr h.1 f hS nz_f (fun q => q)⟩
end FRC
/-- a season at s shows a row -/
def cShp (b : Nat) (M : dwSt) (s : Nat) : Prop := s + 5 < dwN M ∧ dwK M s = (0, 2) ∧ dwR M s 43 = some b ∧ dwR M s 32 = some (s + 1) ∧ dwR M s 33 = some (s + 2) ∧ dwR M s 34 = some (s + 3) ∧ dwR M s 35 = some (s + 4) ∧ dwR M s 36 = some (s + 5) ∧ dwK M (s + 1) = (1, 7) ∧ dwK M (s + 2) = (1, 7) ∧ dwK M (s + 3) = (1, 7) ∧ dwK M (s + 4) = (1, 7) ∧ dwK M (s + 5) = (1, 42)
def cRow (M : dwSt) (s n : Nat) (r : Nat → Int32) : Prop :=
  (∀ p, p < 7 → dwI M (s + 1) p = r p) ∧ (∀ p, p < 7 → dwI M (s + 2) p = r (7 + p)) ∧ (∀ p, p < 7 → dwI M (s + 3) p = r (21 + p)) ∧ (∀ p, p < 7 → dwI M (s + 4) p = r (28 + p)) ∧ (∀ k, k < 42 → dwI M (s + 5) k = r (35 + k)) ∧ dwI M s 37 = whoS n r 14 ∧ dwI M s 38 = r 77 ∧ dwI M s 39 = r 78
def cSea (b : Nat) (M : dwSt) (s n : Nat) (r : Nat → Int32) : Prop := cShp b M s ∧ cRow M s n r
section FRS
variable {b n u : Nat} {S Z : Nat → Nat → Prop} {M M' : dwSt} {s : Nat} {r : Nat → Int32}
theorem cShp.fr (h : cShp b M s) (f : fr S Z n u M M') (hZ : ∀ k, ¬ Z s k) : cShp b M' s := by
  obtain ⟨h0, h1, h2, h3, h4, h5, h6, h7, h8, h9, h10, h11, h12⟩ := h
  have hr : ∀ k, dwR M' s k = dwR M s k := fun k => f.r (by omega) (hZ k)
  exact ⟨Nat.lt_of_lt_of_le h0 f.n, (f.k (by omega)).trans h1, (hr _).trans h2, (hr _).trans h3, (hr _).trans h4, (hr _).trans h5, (hr _).trans h6, (hr _).trans h7, (f.k (by omega)).trans h8, (f.k (by omega)).trans h9, (f.k (by omega)).trans h10, (f.k (by omega)).trans h11, (f.k (by omega)).trans h12⟩
theorem cRow.fr {m : Nat} (hs : s + 5 < dwN M) (h : cRow M s m r) (f : fr S Z n u M M') (hS : ∀ i k, i < 6 → ¬ S (s + i) k) : cRow M' s m r := by
  obtain ⟨h1, h2, h3, h4, h5, h6, h7, h8⟩ := h
  have hi : ∀ i k, i < 6 → dwI M' (s + i) k = dwI M (s + i) k := fun i k h => f.i (by omega) (hS i k h)
  exact ⟨fun p hp => (hi 1 p (by omega)).trans (h1 p hp), fun p hp => (hi 2 p (by omega)).trans (h2 p hp), fun p hp => (hi 3 p (by omega)).trans (h3 p hp), fun p hp => (hi 4 p (by omega)).trans (h4 p hp), fun p hp => (hi 5 p (by omega)).trans (h5 p hp), (hi 0 37 (by omega)).trans h6, (hi 0 38 (by omega)).trans h7, (hi 0 39 (by omega)).trans h8⟩
theorem cSea.fr {m : Nat} (h : cSea b M s m r) (f : fr S Z n u M M') (hS : ∀ i k, i < 6 → ¬ S (s + i) k) (hZ : ∀ k, ¬ Z s k) : cSea b M' s m r := ⟨h.1.fr f hZ, h.2.fr h.1.1 f hS⟩
end FRS
