/-! the parts of what stands, each with what it rests on -/
def cBkP (b : Nat) (M : dwSt) (B : Nat × (Nat → Nat → Int32)) : Prop := dwI M b 13 = Int32.ofNat B.1 ∧ ∀ j, j < 6 → dwI M (b + 21) j = bookS B j
def cPaP (b : Nat) (w : Nat → Nat) (M : dwSt) (n : Nat) (P : Nat × (Nat → Nat → Int32)) : Prop := dwI M b 11 = Int32.ofNat P.1 ∧ (∀ r, r < 16 → cSlot b w M (b + 35) r (10 + r)) ∧ ∀ r, r < P.1 → cHas M (b + 35) r n (P.2 r)
def cImP (b : Nat) (w : Nat → Nat) (M : dwSt) (n : Nat) (I : Nat × (Nat → Nat) × (Nat → Nat → Int32) × (Nat → Nat → Nat → Int32)) : Prop := dwI M b 17 = Int32.ofNat I.1 ∧ (∀ i, i < 3 → cSlot b w M (b + 36) i (100 + i)) ∧ (∀ i, i < 48 → cSlot b w M (b + 37) i (200 + i)) ∧ ∀ i, i < I.1 → dwI M (b + 38) i = Int32.ofNat (I.2.1 i) ∧ cHas M (b + 36) i n (I.2.2.1 i) ∧ ∀ r, r < I.2.1 i → cHas M (b + 37) (16 * i + r) n (I.2.2.2 i r)
def cTxP (b : Nat) (M : dwSt) (X : Nat × (Nat → Int32)) : Prop := dwI M b 15 = Int32.ofNat X.1 ∧ ∀ k, k < X.1 → dwI M (b + 39) k = (X.2 k).toInt8.toInt32
def tBkP (b : Nat) (M : dwSt) (B : Nat × (Nat → Nat → Int32)) : Prop := dwI M (b + 54) 77 = Int32.ofNat B.1 ∧ ∀ k i, k < B.1 → i < 2 → dwI M (b + 438 + k) i = B.2 k i
def tPaP (b : Nat) (M : dwSt) (P : Nat × (Nat → Nat → Int32)) : Prop := dwI M (b + 54) 78 = Int32.ofNat P.1 ∧ ∀ r k, r < P.1 → k < 79 → dwI M (b + 537 + r) k = P.2 r k
def tImP (b : Nat) (M : dwSt) (I : Nat × (Nat → Nat) × (Nat → Nat → Int32) × (Nat → Nat → Nat → Int32)) : Prop := dwI M (b + 54) 80 = Int32.ofNat I.1 ∧ ∀ i, i < I.1 → dwI M (b + 554 + i) 0 = Int32.ofNat (I.2.1 i) ∧ (∀ k, k < 79 → dwI M (b + 554 + i) (1 + k) = I.2.2.1 i k) ∧ ∀ r k, r < I.2.1 i → k < 79 → dwI M (b + 554 + i) (80 + 79 * r + k) = I.2.2.2 i r k
def tTxP (b : Nat) (M : dwSt) (X : Nat × (Nat → Int32)) : Prop := dwI M (b + 54) 45 = Int32.ofNat X.1 ∧ ∀ k, k < X.1 → dwI M (b + 55) k = X.2 k
section PIECE
variable {b cn cu n : Nat} {w w' : Nat → Nat} {S Z : Nat → Nat → Prop} {M M' : dwSt} {A : dvA}
theorem cCore.sh (h : cCore b w M A) : Sh b M := h.1
theorem cCore.told (h : cCore b w M A) : cTold b w M (aT A) := h.2.1
theorem cCore.law (h : cCore b w M A) : cLaw b w M (aLw A) := h.2.2.1
theorem cCore.bk (h : cCore b w M A) : cBkP b M (aBk A) := h.2.2.2.1
theorem cCore.now (h : cCore b w M A) : cSea b M (b + 23) (tP (aT A)) (aNow A) := h.2.2.2.2.1
theorem cCore.pa (h : cCore b w M A) : cPaP b w M (tP (aT A)) (aPa A) := h.2.2.2.2.2.1
theorem cCore.im (h : cCore b w M A) : cImP b w M (tP (aT A)) (aIm A) := h.2.2.2.2.2.2.1
theorem cCore.rs (h : cCore b w M A) : dwI M b 12 = aRs A := h.2.2.2.2.2.2.2.1
theorem cCore.pl (h : cCore b w M A) : dwI M b 16 = aPl A := h.2.2.2.2.2.2.2.2.1
theorem cCore.tx (h : cCore b w M A) : cTxP b M (aTx A) := ⟨h.2.2.2.2.2.2.2.2.2.1, h.2.2.2.2.2.2.2.2.2.2.1⟩
theorem cCore_mk (hs : Sh b M) (hT : cTold b w M (aT A)) (hL : cLaw b w M (aLw A)) (hB : cBkP b M (aBk A)) (hN : cSea b M (b + 23) (tP (aT A)) (aNow A)) (hP : cPaP b w M (tP (aT A)) (aPa A)) (hI : cImP b w M (tP (aT A)) (aIm A)) (hr : dwI M b 12 = aRs A) (hp : dwI M b 16 = aPl A) (hX : cTxP b M (aTx A)) (hO : allOK A) : cCore b w M A := ⟨hs, hT, hL, hB, hN, hP, hI, hr, hp, hX.1, hX.2, hO⟩
theorem tCore.sh (h : tCore b M A) : Sh b M := h.1
theorem tCore.told (h : tCore b M A) : tTold b M (aT A) := h.2.1
theorem tCore.law (h : tCore b M A) : tLaw b M (aLw A) := h.2.2.1
theorem tCore.bk (h : tCore b M A) : tBkP b M (aBk A) := h.2.2.2.1
theorem tCore.now (h : tCore b M A) : dwI M (b + 534) = aNow A := h.2.2.2.2.1
theorem tCore.pa (h : tCore b M A) : tPaP b M (aPa A) := h.2.2.2.2.2.1
theorem tCore.im (h : tCore b M A) : tImP b M (aIm A) := h.2.2.2.2.2.2.1
theorem tCore.rs (h : tCore b M A) : dwI M (b + 54) 79 = aRs A := h.2.2.2.2.2.2.2.1
theorem tCore.pl (h : tCore b M A) : dwI M (b + 54) 47 = aPl A := h.2.2.2.2.2.2.2.2.1
theorem tCore.tx (h : tCore b M A) : tTxP b M (aTx A) := ⟨h.2.2.2.2.2.2.2.2.2.1, h.2.2.2.2.2.2.2.2.2.2.1⟩
theorem tCore_mk (hs : Sh b M) (hT : tTold b M (aT A)) (hL : tLaw b M (aLw A)) (hB : tBkP b M (aBk A)) (hN : dwI M (b + 534) = aNow A) (hP : tPaP b M (aPa A)) (hI : tImP b M (aIm A)) (hr : dwI M (b + 54) 79 = aRs A) (hp : dwI M (b + 54) 47 = aPl A) (hX : tTxP b M (aTx A)) (hO : allOK A) : tCore b M A := ⟨hs, hT, hL, hB, hN, hP, hI, hr, hp, hX.1, hX.2, hO⟩
/-! whose a new cell is -/
theorem own.wo {o a : Nat} (h : own b w M o a) (hw : ∀ a, a < dwN M → w' a = w a) : own b w' M o a := ⟨(hw a h.2.2).trans h.1, h.2⟩
theorem cList.wo {l m ci f0 f1 : Nat} {g : Nat → Nat → Int32} (h : cList b w M l m ci f0 f1 g) (hw : ∀ a, a < dwN M → w' a = w a) : cList b w' M l m ci f0 f1 g := by
  obtain ⟨h1, h2, h3, e, cap, h4, h5, h6, h7, h8, h9⟩ := h
  refine ⟨h1.wo hw, h2, h3, e, cap, h4.wo hw, h5, h6, h7, h8, fun p hp => ?_⟩
  obtain ⟨q, q1, q2⟩ := h9 p hp
  exact ⟨q, q1.wo hw, q2⟩
theorem cTold.wo {T : dvT} (h : cTold b w M T) (hw : ∀ a, a < dwN M → w' a = w a) : cTold b w' M T := by
  obtain ⟨d, h0, ⟨h1, h2, ⟨l, a1, a2⟩, ⟨l', a3, a4⟩, ⟨x, b1, b2⟩, ⟨y, c1, c2⟩, ⟨z, d1, d2⟩, e⟩, hO⟩ := h
  exact ⟨d, h0, ⟨h1.wo hw, h2, ⟨l, a1, a2.wo hw⟩, ⟨l', a3, a4.wo hw⟩, ⟨x, b1.wo hw, b2⟩, ⟨y, c1.wo hw, c2⟩, ⟨z, d1.wo hw, d2⟩, e⟩, hO⟩
theorem tma.wo {f : Nat → Int32} (hw : ∀ a, a < dwN M → w' a = w a) : ∀ (d a : Nat) (v : Int32), tma b w M f d a v → tma b w' M f d a v := by
  intro d
  induction d with
  | zero => intro a v h; exact h
  | succ d ih =>
    intro a v ⟨h0, h⟩
    refine ⟨h0.wo hw, ?_⟩
    rcases h with h | h | ⟨o, ci, x, y, v1, v2, h1, h2, h3, h4, h5, h6, h7⟩
    · exact Or.inl h
    · exact Or.inr (Or.inl h)
    · exact Or.inr (Or.inr ⟨o, ci, x, y, v1, v2, h1, h2, h3, h4, ih _ _ h5, ih _ _ h6, h7⟩)
theorem cLaw.wo {lw : (Nat → Int32) → Int32} (h : cLaw b w M lw) (hw : ∀ a, a < dwN M → w' a = w a) : cLaw b w' M lw := by
  obtain ⟨he, l, d, h1, h2, h3⟩ := h
  exact ⟨he, l, d, h1, h2, fun g => tma.wo hw _ _ _ (h3 g)⟩
theorem cSlot.wo {arr k tag : Nat} (h : cSlot b w M arr k tag) (hw : ∀ a, a < dwN M → w' a = w a) : cSlot b w' M arr k tag := by
  rcases h with h | ⟨s, h1, h2, h3, h4⟩
  · exact Or.inl h
  · exact Or.inr ⟨s, h1, h2, h3, fun i hi => (hw _ (by have := h2.1; omega)).trans (h4 i hi)⟩
theorem cPaP.wo {P : Nat × (Nat → Nat → Int32)} (h : cPaP b w M n P) (hw : ∀ a, a < dwN M → w' a = w a) : cPaP b w' M n P := ⟨h.1, fun r hr => (h.2.1 r hr).wo hw, h.2.2⟩
theorem cImP.wo {I : Nat × (Nat → Nat) × (Nat → Nat → Int32) × (Nat → Nat → Nat → Int32)} (h : cImP b w M n I) (hw : ∀ a, a < dwN M → w' a = w a) : cImP b w' M n I := ⟨h.1, fun r hr => (h.2.1 r hr).wo hw, fun r hr => (h.2.2.1 r hr).wo hw, h.2.2.2⟩
/-! frames -/
theorem cslot_g {arr k tag : Nat} (h : cSlot b w M arr k tag) (ha : arr < dwN M) (f : fr S Z cn cu M M') (hZ1 : ¬ Z arr k) (hZ2 : ∀ a j, b + 562 ≤ a → w a = tag → ¬ Z a j) : cSlot b w M' arr k tag := by
  rcases h with h | ⟨s, h1, h2, h3, h4⟩
  · exact Or.inl ((f.r ha hZ1).trans h)
  · exact Or.inr ⟨s, (f.r ha hZ1).trans h1, h2.fr f (fun k => hZ2 s k h3 (h4 0 (by omega))), h3, h4⟩
theorem chas_g {arr k m tag : Nat} {r : Nat → Int32} (h : cHas M arr k m r) (hs : cSlot b w M arr k tag) (ha : arr < dwN M) (f : fr S Z cn cu M M') (hZ1 : ¬ Z arr k) (hS : ∀ a j, b + 562 ≤ a → w a = tag → ¬ S a j) : cHas M' arr k m r := by
  obtain ⟨s, h1, h2⟩ := h
  rcases hs with hs | ⟨s', h3, h4, h5, h6⟩
  · rw [hs] at h1; cases h1
  · rw [h1] at h3
    cases h3
    exact ⟨s, (f.r ha hZ1).trans h1, h2.fr h4.1 f (fun i k hi => hS _ _ (by omega) (h6 i hi))⟩
theorem cBkP.fr {B : Nat × (Nat → Nat → Int32)} (h : cBkP b M B) (hs : Sh b M) (f : fr S Z cn cu M M') (h1 : ¬ S b 13) (h2 : ∀ k, ¬ S (b + 21) k) : cBkP b M' B := by
  have hn := shN hs
  exact ⟨(f.i (by omega) h1).trans h.1, fun j hj => (f.i (by omega) (h2 j)).trans (h.2 j hj)⟩
theorem cPaP.fr {P : Nat × (Nat → Nat → Int32)} (h : cPaP b w M n P) (hs : Sh b M) (hP : P.1 ≤ 16) (f : fr S Z cn cu M M') (h1 : ¬ S b 11) (h2 : ∀ k, ¬ Z (b + 35) k) (h3 : ∀ a j, b + 562 ≤ a → 10 ≤ w a → w a < 26 → ¬ S a j ∧ ¬ Z a j) : cPaP b w M' n P := by
  have hn := shN hs
  exact ⟨(f.i (by omega) h1).trans h.1, fun r hr => cslot_g (h.2.1 r hr) (by omega) f (h2 _) (fun a j ha q => (h3 a j ha (by omega) (by omega)).2), fun r hr => chas_g (h.2.2 r hr) (h.2.1 r (by omega)) (by omega) f (h2 _) (fun a j ha q => (h3 a j ha (by omega) (by omega)).1)⟩
theorem cImP.fr {I : Nat × (Nat → Nat) × (Nat → Nat → Int32) × (Nat → Nat → Nat → Int32)} (h : cImP b w M n I) (hs : Sh b M) (hI : I.1 ≤ 3) (hI2 : ∀ i, i < I.1 → I.2.1 i ≤ 16) (f : fr S Z cn cu M M') (h1 : ¬ S b 17) (h2 : ∀ k, ¬ Z (b + 36) k ∧ ¬ Z (b + 37) k ∧ ¬ S (b + 38) k) (h3 : ∀ a j, b + 562 ≤ a → 100 ≤ w a → w a < 248 → ¬ S a j ∧ ¬ Z a j) : cImP b w M' n I := by
  have hn := shN hs
  refine ⟨(f.i (by omega) h1).trans h.1, fun r hr => cslot_g (h.2.1 r hr) (by omega) f (h2 _).1 (fun a j ha q => (h3 a j ha (by omega) (by omega)).2), fun r hr => cslot_g (h.2.2.1 r hr) (by omega) f (h2 _).2.1 (fun a j ha q => (h3 a j ha (by omega) (by omega)).2), fun i hi => ?_⟩
  obtain ⟨p1, p2, p3⟩ := h.2.2.2 i hi
  have := hI2 i hi
  exact ⟨(f.i (by omega) (h2 _).2.2).trans p1, chas_g p2 (h.2.1 i (by omega)) (by omega) f (h2 _).1 (fun a j ha q => (h3 a j ha (by omega) (by omega)).1), fun r hr => chas_g (p3 r hr) (h.2.2.1 (16 * i + r) (by omega)) (by omega) f (h2 _).2.1 (fun a j ha q => (h3 a j ha (by omega) (by omega)).1)⟩
theorem cTxP.fr {X : Nat × (Nat → Int32)} (h : cTxP b M X) (hs : Sh b M) (f : fr S Z cn cu M M') (h1 : ¬ S b 15) (h2 : ∀ k, ¬ S (b + 39) k) : cTxP b M' X := by
  have hn := shN hs
  exact ⟨(f.i (by omega) h1).trans h.1, fun j hj => (f.i (by omega) (h2 j)).trans (h.2 j hj)⟩
theorem tBkP.fr {B : Nat × (Nat → Nat → Int32)} (h : tBkP b M B) (hs : Sh b M) (hB : B.1 ≤ 6) (f : fr S Z cn cu M M') (h1 : ¬ S (b + 54) 77) (h2 : ∀ a k, b + 438 ≤ a → a ≤ b + 443 → ¬ S a k) : tBkP b M' B := by
  have hn := shN hs
  exact ⟨(f.i (by omega) h1).trans h.1, fun k i hk hi => (f.i (by omega) (h2 _ _ (by omega) (by omega))).trans (h.2 k i hk hi)⟩
theorem tPaP.fr {P : Nat × (Nat → Nat → Int32)} (h : tPaP b M P) (hs : Sh b M) (hP : P.1 ≤ 16) (f : fr S Z cn cu M M') (h1 : ¬ S (b + 54) 78) (h2 : ∀ a k, b + 537 ≤ a → a ≤ b + 552 → ¬ S a k) : tPaP b M' P := by
  have hn := shN hs
  exact ⟨(f.i (by omega) h1).trans h.1, fun k i hk hi => (f.i (by omega) (h2 _ _ (by omega) (by omega))).trans (h.2 k i hk hi)⟩
theorem tImP.fr {I : Nat × (Nat → Nat) × (Nat → Nat → Int32) × (Nat → Nat → Nat → Int32)} (h : tImP b M I) (hs : Sh b M) (hI : I.1 ≤ 3) (f : fr S Z cn cu M M') (h1 : ¬ S (b + 54) 80) (h2 : ∀ a k, b + 554 ≤ a → a ≤ b + 556 → ¬ S a k) : tImP b M' I := by
  have hn := shN hs
  refine ⟨(f.i (by omega) h1).trans h.1, fun i hi => ?_⟩
  have hx : ∀ k, dwI M' (b + 554 + i) k = dwI M (b + 554 + i) k := fun k => f.i (by omega) (h2 _ _ (by omega) (by omega))
  obtain ⟨p1, p2, p3⟩ := h.2 i hi
  exact ⟨(hx _).trans p1, fun k hk => (hx _).trans (p2 k hk), fun r k hr hk => (hx _).trans (p3 r k hr hk)⟩
theorem tTxP.fr {X : Nat × (Nat → Int32)} (h : tTxP b M X) (hs : Sh b M) (f : fr S Z cn cu M M') (h1 : ¬ S (b + 54) 45) (h2 : ∀ k, ¬ S (b + 55) k) : tTxP b M' X := by
  have hn := shN hs
  exact ⟨(f.i (by omega) h1).trans h.1, fun j hj => (f.i (by omega) (h2 j)).trans (h.2 j hj)⟩
end PIECE
