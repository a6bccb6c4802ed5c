/-! WHAT STANDS between the calls: the told, the law, the book, now, the past, images, what was refused in a work, the place of a fault, the tape, refusals -/
abbrev dvA : Type := dvT × ((Nat → Int32) → Int32) × (Nat × (Nat → Nat → Int32)) × (Nat → Int32) × (Nat × (Nat → Nat → Int32)) × (Nat × (Nat → Nat) × (Nat → Nat → Int32) × (Nat → Nat → Nat → Int32)) × Int32 × Int32 × (Nat × (Nat → Int32)) × (Nat → Int32)
def aT (A : dvA) : dvT := A.1
def aLw (A : dvA) : (Nat → Int32) → Int32 := A.2.1
def aBk (A : dvA) : Nat × (Nat → Nat → Int32) := A.2.2.1
def aNow (A : dvA) : Nat → Int32 := A.2.2.2.1
def aPa (A : dvA) : Nat × (Nat → Nat → Int32) := A.2.2.2.2.1
def aIm (A : dvA) : Nat × (Nat → Nat) × (Nat → Nat → Int32) × (Nat → Nat → Nat → Int32) := A.2.2.2.2.2.1
def aRs (A : dvA) : Int32 := A.2.2.2.2.2.2.1
def aPl (A : dvA) : Int32 := A.2.2.2.2.2.2.2.1
def aTx (A : dvA) : Nat × (Nat → Int32) := A.2.2.2.2.2.2.2.2.1
def aRf (A : dvA) : Nat → Int32 := A.2.2.2.2.2.2.2.2.2
def aBump (A : dvA) (i : Nat) : dvA := (A.1, A.2.1, A.2.2.1, A.2.2.2.1, A.2.2.2.2.1, A.2.2.2.2.2.1, A.2.2.2.2.2.2.1, A.2.2.2.2.2.2.2.1, A.2.2.2.2.2.2.2.2.1, rset A.2.2.2.2.2.2.2.2.2 i (A.2.2.2.2.2.2.2.2.2 i + 1))
/-- a row as it may be -/
def rowOK (T : dvT) (r : Nat → Int32) : Prop := (∀ p, p < tP T → (r (14 + p) = 0 ∨ r (14 + p) = 1) ∧ 0 ≤ r (7 + p) ∧ r (7 + p) ≤ 99) ∧ 0 ≤ r 77 ∧ r 77 ≤ 999
/-- as it may be between the calls: the day is 400 at most -/
def rowD (T : dvT) (r : Nat → Int32) : Prop := rowOK T r ∧ ∃ d, d ≤ 400 ∧ r 78 = Int32.ofNat d
def bkOK (T : dvT) (B : Nat × (Nat → Nat → Int32)) : Prop := B.1 ≤ 6 ∧ (∀ k, k < B.1 → ∃ j, j < tJ T ∧ B.2 k 0 = Int32.ofNat j ∧ 0 ≤ B.2 k 1 ∧ B.2 k 1 ≤ 40) ∧ ∀ k l, k < B.1 → l < k → B.2 k 0 ≠ B.2 l 0
/-- how much one laughed at joke j by the book; -1: in no line -/
def bookS (B : Nat × (Nat → Nat → Int32)) (j : Nat) : Int32 := itr (fun k x => if B.2 k 0 = Int32.ofNat j then B.2 k 1 else x) (-1) B.1
def allOK (A : dvA) : Prop := tOK (aT A) ∧ bkOK (aT A) (aBk A) ∧ rowD (aT A) (aNow A) ∧ (aPa A).1 ≤ 16 ∧ (∀ r, r < (aPa A).1 → rowD (aT A) ((aPa A).2 r)) ∧ (aIm A).1 ≤ 3 ∧ (∀ i, i < (aIm A).1 → (aIm A).2.1 i ≤ 16 ∧ rowD (aT A) ((aIm A).2.2.1 i) ∧ ∀ r, r < (aIm A).2.1 i → rowD (aT A) ((aIm A).2.2.2 i r)) ∧ (aTx A).1 ≤ 600 ∧ ∀ k, k < (aTx A).1 → ∃ v, v < 256 ∧ (aTx A).2 k = Int32.ofNat v
def tCore (b : Nat) (M : dwSt) (A : dvA) : Prop :=
  Sh b M ∧ tTold b M (aT A) ∧ tLaw b M (aLw A) ∧
  (dwI M (b + 54) 77 = Int32.ofNat (aBk A).1 ∧ ∀ k i, k < (aBk A).1 → i < 2 → dwI M (b + 438 + k) i = (aBk A).2 k i) ∧
  dwI M (b + 534) = aNow A ∧
  (dwI M (b + 54) 78 = Int32.ofNat (aPa A).1 ∧ ∀ r k, r < (aPa A).1 → k < 79 → dwI M (b + 537 + r) k = (aPa A).2 r k) ∧
  (dwI M (b + 54) 80 = Int32.ofNat (aIm A).1 ∧ ∀ i, i < (aIm A).1 → dwI M (b + 554 + i) 0 = Int32.ofNat ((aIm A).2.1 i) ∧ (∀ k, k < 79 → dwI M (b + 554 + i) (1 + k) = (aIm A).2.2.1 i k) ∧ ∀ r k, r < (aIm A).2.1 i → k < 79 → dwI M (b + 554 + i) (80 + 79 * r + k) = (aIm A).2.2.2 i r k) ∧
  dwI M (b + 54) 79 = aRs A ∧ dwI M (b + 54) 47 = aPl A ∧ dwI M (b + 54) 45 = Int32.ofNat (aTx A).1 ∧ (∀ k, k < (aTx A).1 → dwI M (b + 55) k = (aTx A).2 k) ∧ allOK A
def TInv (b : Nat) (M : dwSt) (A : dvA) : Prop := tCore b M A ∧ dwI M (b + 56) 0 = aRf A 0 ∧ dwI M (b + 56) 1 = aRf A 1
/-- a slot for a season: empty, or one of its own -/
def cSlot (b : Nat) (w : Nat → Nat) (M : dwSt) (arr k tag : Nat) : Prop := dwR M arr k = none ∨ ∃ s, dwR M arr k = some s ∧ cShp b M s ∧ b + 562 ≤ s ∧ ∀ i, i < 6 → w (s + i) = tag
def cHas (M : dwSt) (arr k n : Nat) (r : Nat → Int32) : Prop := ∃ s, dwR M arr k = some s ∧ cRow M s n r
def cCore (b : Nat) (w : Nat → Nat) (M : dwSt) (A : dvA) : Prop :=
  Sh b M ∧ cTold b w M (aT A) ∧ cLaw b w M (aLw A) ∧
  (dwI M b 13 = Int32.ofNat (aBk A).1 ∧ ∀ j, j < 6 → dwI M (b + 21) j = bookS (aBk A) j) ∧
  cSea b M (b + 23) (tP (aT A)) (aNow A) ∧
  (dwI M b 11 = Int32.ofNat (aPa A).1 ∧ (∀ r, r < 16 → cSlot b w M (b + 35) r (10 + r)) ∧ ∀ r, r < (aPa A).1 → cHas M (b + 35) r (tP (aT A)) ((aPa A).2 r)) ∧
  (dwI M b 17 = Int32.ofNat (aIm A).1 ∧ (∀ i, i < 3 → cSlot b w M (b + 36) i (100 + i)) ∧ (∀ i, i < 48 → cSlot b w M (b + 37) i (200 + i)) ∧ ∀ i, i < (aIm A).1 → dwI M (b + 38) i = Int32.ofNat ((aIm A).2.1 i) ∧ cHas M (b + 36) i (tP (aT A)) ((aIm A).2.2.1 i) ∧ ∀ r, r < (aIm A).2.1 i → cHas M (b + 37) (16 * i + r) (tP (aT A)) ((aIm A).2.2.2 i r)) ∧
  dwI M b 12 = aRs A ∧ dwI M b 16 = aPl A ∧ dwI M b 15 = Int32.ofNat (aTx A).1 ∧ (∀ k, k < (aTx A).1 → dwI M (b + 39) k = ((aTx A).2 k).toInt8.toInt32) ∧ allOK A
def CInv (b : Nat) (w : Nat → Nat) (M : dwSt) (A : dvA) : Prop := cCore b w M A ∧ dwI M (b + 22) 0 = aRf A 0 ∧ dwI M (b + 22) 1 = aRf A 1
/-- what the twin's core rests on; the component's -/
def tKeep (b a k : Nat) : Prop := (a = b + 54 ∧ (k = 45 ∨ k = 47 ∨ k = 63 ∨ k = 77 ∨ k = 78 ∨ k = 79 ∨ k = 80)) ∨ a = b + 55 ∨ a = b + 58 ∨ (b + 67 ≤ a ∧ a ≤ b + 74) ∨ (b + 82 ≤ a ∧ a ≤ b + 88) ∨ (b + 102 ≤ a ∧ a ≤ b + 275) ∨ (b + 437 ≤ a ∧ a ≤ b + 443) ∨ a = b + 534 ∨ (b + 536 ≤ a ∧ a ≤ b + 556)
def cKeep (b a k : Nat) : Prop := imf b a ∨ (a = b ∧ (k = 11 ∨ k = 12 ∨ k = 13 ∨ k = 15 ∨ k = 16 ∨ k = 17)) ∨ a = b + 21 ∨ (b + 23 ≤ a ∧ a ≤ b + 28) ∨ a = b + 38 ∨ a = b + 39
def tOff (b : Nat) (S : Nat → Nat → Prop) : Prop := ∀ a k, S a k → ¬ tKeep b a k
def cOff (b : Nat) (S : Nat → Nat → Prop) : Prop := ∀ a k, S a k → ¬ cKeep b a k
section FRA
variable {b cn cu : Nat} {w : Nat → Nat} {S Z : Nat → Nat → Prop} {M M' : dwSt} {A : dvA}
theorem tCore.ok (h : tCore b M A) : allOK A := h.2.2.2.2.2.2.2.2.2.2.2
theorem cCore.ok (h : cCore b w M A) : allOK A := h.2.2.2.2.2.2.2.2.2.2.2
theorem tCore.fr (h : tCore b M A) (f : fr S Z cn cu M M') (hS : tOff b S) (hZ : ∀ a k, Z a k → ¬ ptr b a k) : tCore b M' A := by
  obtain ⟨hs, hT, hL, ⟨h1, h2⟩, h3, ⟨h4, h5⟩, ⟨h6, h7⟩, h8, h9, h10, h11, hO⟩ := h
  have hn := shN hs
  have hi : ∀ i k, i < 562 → tKeep b (b + i) k → dwI M' (b + i) k = dwI M (b + i) k := fun i k h1 h2 => f.i (by omega) (fun q => hS _ _ q h2)
  obtain ⟨o1, o2, o3, o4, o5, o6, o7, o8, o9⟩ := hO
  have hT' : tTold b M' (aT A) := by
    obtain ⟨t1, t2, t3, t4, t5, t6, t7, t8, t9⟩ := hT
    have q1 := t9.1
    have q2 := t9.2.1
    have q3 := t9.2.2.1
    refine ⟨(hi 58 0 (by omega) (by unfold tKeep; omega)).trans t1, (hi 58 1 (by omega) (by unfold tKeep; omega)).trans t2, (hi 58 2 (by omega) (by unfold tKeep; omega)).trans t3, (hi 58 3 (by omega) (by unfold tKeep; omega)).trans t4, (hi 58 4 (by omega) (by unfold tKeep; omega)).trans t5, ?_, ?_, ?_, t9⟩
    · intro p i hp h2; rw [Nat.add_assoc, hi _ _ (by omega) (by unfold tKeep; omega), ← Nat.add_assoc]; exact t6 p i hp h2
    · intro p i hp h2; rw [Nat.add_assoc, hi _ _ (by omega) (by unfold tKeep; omega), ← Nat.add_assoc]; exact t7 p i hp h2
    · intro p i hp h2; rw [Nat.add_assoc, hi _ _ (by omega) (by unfold tKeep; omega), ← Nat.add_assoc]; exact t8 p i hp h2
  have hL' : tLaw b M' (aLw A) := by
    obtain ⟨he, cs, l1, l2, l3, l4⟩ := hL
    refine ⟨he, cs, l1, (hi 54 63 (by omega) (by unfold tKeep; omega)).trans l2, fun k x hx => ?_, l4⟩
    have hk : k < cs.length := (List.getElem?_eq_some_iff.mp hx).1
    obtain ⟨q1, q2⟩ := l3 k x hx
    rw [Nat.add_assoc] at q1 q2 ⊢
    exact ⟨(hi _ _ (by omega) (by unfold tKeep; omega)).trans q1, (hi _ _ (by omega) (by unfold tKeep; omega)).trans q2⟩
  refine ⟨hs.fr f hZ, hT', hL', ⟨(hi 54 77 (by omega) (by unfold tKeep; omega)).trans h1, fun k i hk h => ?_⟩, ?_, ⟨(hi 54 78 (by omega) (by unfold tKeep; omega)).trans h4, fun r k hr hk => ?_⟩, ⟨(hi 54 80 (by omega) (by unfold tKeep; omega)).trans h6, fun i hk => ?_⟩, (hi 54 79 (by omega) (by unfold tKeep; omega)).trans h8, (hi 54 47 (by omega) (by unfold tKeep; omega)).trans h9, (hi 54 45 (by omega) (by unfold tKeep; omega)).trans h10, fun k hk => (hi 55 k (by omega) (by unfold tKeep; omega)).trans (h11 k hk), o1, o2, o3, o4, o5, o6, o7, o8, o9⟩
  · have := o2.1
    rw [Nat.add_assoc, hi _ _ (by omega) (by unfold tKeep; omega), ← Nat.add_assoc]; exact h2 k i hk h
  · exact (f.if (by omega) (fun k q => hS _ _ q (by unfold tKeep; omega))).trans h3
  · rw [Nat.add_assoc, hi _ _ (by omega) (by unfold tKeep; omega), ← Nat.add_assoc]; exact h5 r k hr hk
  · have hx : ∀ k, dwI M' (b + 554 + i) k = dwI M (b + 554 + i) k := fun k => by
      rw [Nat.add_assoc, hi _ _ (by omega) (by unfold tKeep; omega)]
    obtain ⟨p1, p2, p3⟩ := h7 i hk
    exact ⟨(hx _).trans p1, fun k hk => (hx _).trans (p2 k hk), fun r k hr hk => (hx _).trans (p3 r k hr hk)⟩
theorem cSlot.fr {arr k tag : Nat} (h : cSlot b w M arr k tag) (ha : arr < dwN M) (f : fr S Z cn cu M M') (hZ1 : ¬ Z arr k) (hZ2 : ∀ s k, b + 562 ≤ s → ¬ Z s k) : cSlot b w M' arr k tag := by
  rcases h with h | ⟨s, h1, h2, h3, h4⟩
  · exact Or.inl ((f.r ha hZ1).trans h)
  · exact Or.inr ⟨s, (f.r ha hZ1).trans h1, h2.fr f (fun k => hZ2 s k h3), h3, h4⟩
theorem cHas.fr {arr k m tag : Nat} {r : Nat → Int32} (h : cHas M arr k m r) (hs : cSlot b w M arr k tag) (ha : arr < dwN M) (f : fr S Z cn cu M M') (hZ1 : ¬ Z arr k) (hS : ∀ s k, b + 562 ≤ s → ¬ S s k) : cHas M' arr k m r := by
  obtain ⟨s, h1, h2⟩ := h
  rcases hs with hs | ⟨s', h3, h4, h5, h6⟩
  · rw [hs] at h1; cases h1
  · rw [h1] at h3
    cases h3
    exact ⟨s, (f.r ha hZ1).trans h1, h2.fr h4.1 f (fun i k hi => hS _ _ (by omega))⟩
theorem cCore.fr (h : cCore b w M A) (f : fr S nz cn cu M M') (hS : cOff b S) : cCore b w M' A := by
  obtain ⟨hs, hT, hL, ⟨h1, h2⟩, h3, ⟨h4, h5, h5'⟩, ⟨h6, h7, h7', h7''⟩, h8, h9, h10, h11, hO⟩ := h
  have hn := shN hs
  have hF : cFree b w S := fun a k q hi => absurd (Or.inl hi) (hS a k q)
  have hbig : ∀ s k, b + 562 ≤ s → ¬ S s k := fun s k hb q => hS s k q (Or.inl (by unfold imf; omega))
  have hi : ∀ i k, i < 54 → cKeep b (b + i) k → dwI M' (b + i) k = dwI M (b + i) k := fun i k h1 h2 => f.i (by omega) (fun q => hS _ _ q h2)
  have hb : ∀ k, cKeep b b k → dwI M' b k = dwI M b k := fun k h2 => f.i (by omega) (fun q => hS _ _ q h2)
  have hsl : ∀ arr k tag, arr < dwN M → cSlot b w M arr k tag → cSlot b w M' arr k tag := fun arr k tag ha q => q.fr ha f (fun z => z) (fun _ _ _ z => z)
  have hc : ∀ k, (k = 11 ∨ k = 12 ∨ k = 13 ∨ k = 15 ∨ k = 16 ∨ k = 17) → cKeep b b k := fun k q => Or.inr (Or.inl ⟨rfl, q⟩)
  have o6 := hO.2.2.2.2.2.1
  have o4 := hO.2.2.2.1
  refine ⟨hs.fr f nz_p, hT.fr hs f hF nz_f (fun q => q), hL.fr hs f hF nz_f (fun q => q), ⟨(hb 13 (hc _ (by omega))).trans h1, fun j hj => (hi 21 j (by omega) (by unfold cKeep; omega)).trans (h2 j hj)⟩, h3.fr f (fun i k hi q => hS _ _ q (by unfold cKeep; omega)) (fun _ q => q), ⟨(hb 11 (hc _ (by omega))).trans h4, fun r hr => hsl _ _ _ (by omega) (h5 r hr), fun r hr => (h5' r hr).fr (h5 r (by omega)) (by omega) f (fun z => z) hbig⟩, ⟨(hb 17 (hc _ (by omega))).trans h6, fun i hi => hsl _ _ _ (by omega) (h7 i hi), fun i hi => hsl _ _ _ (by omega) (h7' i hi), fun i hk => ?_⟩, (hb 12 (hc _ (by omega))).trans h8, (hb 16 (hc _ (by omega))).trans h9, (hb 15 (hc _ (by omega))).trans h10, fun k hk => (hi 39 k (by omega) (by unfold cKeep; omega)).trans (h11 k hk), hO⟩
  obtain ⟨p1, p2, p3⟩ := h7'' i hk
  have o7 := (hO.2.2.2.2.2.2.1 i hk).1
  exact ⟨(hi 38 i (by omega) (by unfold cKeep; omega)).trans p1, p2.fr (h7 i (by omega)) (by omega) f (fun z => z) hbig, fun r hr => (p3 r hr).fr (h7' (16 * i + r) (by omega)) (by omega) f (fun z => z) hbig⟩
theorem TInv.fr (h : TInv b M A) (f : fr S Z cn cu M M') (hS : tOff b S) (h56 : ∀ k, ¬ S (b + 56) k) (hZ : ∀ a k, Z a k → ¬ ptr b a k) : TInv b M' A := by
  have hn := shN h.1.1
  exact ⟨h.1.fr f hS hZ, (f.i (by omega) (h56 _)).trans h.2.1, (f.i (by omega) (h56 _)).trans h.2.2⟩
theorem CInv.fr (h : CInv b w M A) (f : fr S nz cn cu M M') (hS : cOff b S) (h22 : ∀ k, ¬ S (b + 22) k) : CInv b w M' A := by
  have hn := shN h.1.1
  exact ⟨h.1.fr f hS, (f.i (by omega) (h22 _)).trans h.2.1, (f.i (by omega) (h22 _)).trans h.2.2⟩
theorem CInv.e (h : CInv b w M A) : cEnv b w M (aT A) (aLw A) := ⟨h.1.1, h.1.2.1, h.1.2.2.1⟩
theorem TInv.e (h : TInv b M A) : tEnv b M (aT A) (aLw A) := ⟨h.1.1, h.1.2.1, h.1.2.2.1⟩
/-- all that is not the twin's; the twin's -/
def cW (b : Nat) : Nat → Nat → Prop := fun a _ => ¬ (b + 54 ≤ a ∧ a ≤ b + 560)
def tW (b : Nat) : Nat → Nat → Prop := fun a _ => b + 54 ≤ a ∧ a ≤ b + 560
theorem cW_t {b : Nat} : tOff b (cW b) := fun a k q h => by unfold cW at q; unfold tKeep at h; omega
theorem tW_c {b : Nat} : cOff b (tW b) := fun a k q h => by unfold tW at q; unfold cKeep imf at h; omega
end FRA
