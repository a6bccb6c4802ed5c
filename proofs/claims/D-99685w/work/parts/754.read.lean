/-! what a call that reads leaves when the told, the law stay: a book, a place, an empty tape -/
def aRd (A : dvA) (B : Nat × (Nat → Nat → Int32)) (pl : Int32) : dvA := (A.1, A.2.1, B, A.2.2.2.1, A.2.2.2.2.1, A.2.2.2.2.2.1, A.2.2.2.2.2.2.1, pl, (0, A.2.2.2.2.2.2.2.2.1.2), A.2.2.2.2.2.2.2.2.2)
def sRc (b : Nat) : Nat → Nat → Prop := fun a k => (a = b ∧ (k = 13 ∨ k = 15 ∨ k = 16)) ∨ a = b + 21
def sRt (b : Nat) : Nat → Nat → Prop := fun a k => (a = b + 54 ∧ ((44 ≤ k ∧ k ≤ 52) ∨ k = 64 ∨ k = 72 ∨ k = 77)) ∨ a = b + 57 ∨ (b + 59 ≤ a ∧ a ≤ b + 66) ∨ (b + 75 ≤ a ∧ a ≤ b + 81) ∨ (b + 89 ≤ a ∧ a ≤ b + 101) ∨ (b + 276 ≤ a ∧ a ≤ b + 450) ∨ (b + 453 ≤ a ∧ a ≤ b + 533)
section CALL
variable {b n u : Nat} {w : Nat → Nat} {S Z : Nat → Nat → Prop} {M M' M1 : dwSt} {A : dvA} {T : dvT} {B : Nat × (Nat → Nat → Int32)} {pl : Int32} {lw : (Nat → Int32) → Int32}
theorem aRd_ok (h : allOK A) (hB : bkOK (aT A) B) : allOK (aRd A B pl) := by
  obtain ⟨o1, o2, o3, o4, o5, o6, o7, o8, o9⟩ := h
  exact ⟨o1, hB, o3, o4, o5, o6, o7, Nat.zero_le _, fun k hk => absurd hk (Nat.not_lt_zero k)⟩
theorem tTold_fr2 (hs : Sh b M) (h : tTold b M T) (f : fr S Z n u M M') (hS : ∀ i k, i = 58 ∨ (67 ≤ i ∧ i ≤ 74) ∨ (82 ≤ i ∧ i ≤ 88) ∨ (102 ≤ i ∧ i ≤ 115) → ¬ S (b + i) k) : tTold b M' T := by
  have hn := shN hs
  have hi : ∀ i k, i = 58 ∨ (67 ≤ i ∧ i ≤ 74) ∨ (82 ≤ i ∧ i ≤ 88) ∨ (102 ≤ i ∧ i ≤ 115) → dwI M' (b + i) k = dwI M (b + i) k := fun i k h1 => f.i (by omega) (hS i k h1)
  obtain ⟨h1, h2, h3, h4, h5, h6, h7, h8, h9⟩ := h
  have o1 := h9.1
  have o2 := h9.2.1
  have o3 := h9.2.2.1
  refine ⟨(hi 58 0 (by omega)).trans h1, (hi 58 1 (by omega)).trans h2, (hi 58 2 (by omega)).trans h3, (hi 58 3 (by omega)).trans h4, (hi 58 4 (by omega)).trans h5, ?_, ?_, ?_, h9⟩
  · intro p i hp hi2; rw [Nat.add_assoc, hi _ _ (by omega), ← Nat.add_assoc]; exact h6 p i hp hi2
  · intro p i hp hi2; rw [Nat.add_assoc, hi _ _ (by omega), ← Nat.add_assoc]; exact h7 p i hp hi2
  · intro p i hp hi2; rw [Nat.add_assoc, hi _ _ (by omega), ← Nat.add_assoc]; exact h8 p i hp hi2
theorem tLaw_fr2 (hs : Sh b M) (h : tLaw b M lw) (f : fr S Z n u M M') (hS : ∀ a k, b + 115 ≤ a → a ≤ b + 275 → ¬ S a k) (h63 : ¬ S (b + 54) 63) : tLaw b M' lw := by
  have hn := shN hs
  obtain ⟨he, cs, h1, h2, h3, h4⟩ := h
  refine ⟨he, cs, h1, (f.i (by omega) h63).trans h2, fun k x hx => ?_, h4⟩
  have hk : k < cs.length := (List.getElem?_eq_some_iff.mp hx).1
  obtain ⟨q1, q2⟩ := h3 k x hx
  exact ⟨(f.i (by omega) (hS _ _ (by omega) (by omega))).trans q1, (f.i (by omega) (hS _ _ (by omega) (by omega))).trans q2⟩
theorem C_rd (hC : CInv b w M A) (f : fr (sRc b) nz n u M M1) (hB : cBkP b M1 B) (hbo : bkOK (aT A) B) (h16 : dwI M1 b 16 = pl) (h15 : dwI M1 b 15 = 0) : CInv b w M1 (aRd A B pl) := by
  have hs := hC.1.sh
  have hn := shN hs
  have o := hC.1.ok
  have hF : cFree b w (sRc b) := fun a k q hi => by unfold sRc at q; unfold imf at hi; omega
  refine ⟨cCore_mk (hs.fr f nz_p) (hC.1.told.fr hs f hF nz_f (fun q => q)) (hC.1.law.fr hs f hF nz_f (fun q => q)) hB (hC.1.now.fr f (fun i k hi => by unfold sRc; omega) (fun _ q => q)) (hC.1.pa.fr hs o.2.2.2.1 f (by unfold sRc; omega) (fun k q => q) (fun a j ha _ _ => ⟨by unfold sRc; omega, fun q => q⟩)) (hC.1.im.fr hs o.2.2.2.2.2.1 (fun i hi => (o.2.2.2.2.2.2.1 i hi).1) f (by unfold sRc; omega) (fun k => ⟨fun q => q, fun q => q, by unfold sRc; omega⟩) (fun a j ha _ _ => ⟨by unfold sRc; omega, fun q => q⟩)) ((f.i (by omega) (by unfold sRc; omega)).trans hC.1.rs) h16 ⟨h15, fun k hk => absurd hk (Nat.not_lt_zero k)⟩ (aRd_ok o hbo), (f.i (by omega) (by unfold sRc; omega)).trans hC.2.1, (f.i (by omega) (by unfold sRc; omega)).trans hC.2.2⟩
theorem T_rd (hT : TInv b M A) (f : fr (sRt b) nz n u M M1) (hB : tBkP b M1 B) (hbo : bkOK (aT A) B) (h47 : dwI M1 (b + 54) 47 = pl) (h45 : dwI M1 (b + 54) 45 = 0) : TInv b M1 (aRd A B pl) := by
  have hs := hT.1.sh
  have hn := shN hs
  have o := hT.1.ok
  refine ⟨tCore_mk (hs.fr f nz_p) (tTold_fr2 hs hT.1.told f (fun i k hi => by unfold sRt; omega)) (tLaw_fr2 hs hT.1.law f (fun a k h1 h2 => by unfold sRt; omega) (by unfold sRt; omega)) hB ((f.if (by omega) (fun k => by unfold sRt; omega)).trans hT.1.now) (hT.1.pa.fr hs o.2.2.2.1 f (by unfold sRt; omega) (fun a k h1 h2 => by unfold sRt; omega)) (hT.1.im.fr hs o.2.2.2.2.2.1 f (by unfold sRt; omega) (fun a k h1 h2 => by unfold sRt; omega)) ((f.i (by omega) (by unfold sRt; omega)).trans hT.1.rs) h47 ⟨h45, fun k hk => absurd hk (Nat.not_lt_zero k)⟩ (aRd_ok o hbo), (f.i (by omega) (by unfold sRt; omega)).trans hT.2.1, (f.i (by omega) (by unfold sRt; omega)).trans hT.2.2⟩
theorem c_rdk {A' : dvA} {f : dwSt → dwR9 Int32} {x : dwR9 Int32} {v : Int32} (h : ∃ M1 w', x = some (.inl v, M1) ∧ CInv b w' M1 A' ∧ fr (cWo b) (zWo b) 9000 113000 M M1) (hX : ∀ M1, x = some (.inl v, M1) → dwK M1 (b + 561) = (3, 1) → f M = some (.inl 0, dwPL M1 (b + 561) 0 v.toInt64)) : ∃ M1 w', f M = some (.inl (0 : Int32), M1) ∧ CInv b w' M1 A' ∧ fr (cWo b) (zWo b) 9000 113000 M M1 ∧ ((0 : Int32) = 0 → dwL M1 (b + 561) 0 = v.toInt64) := by
  obtain ⟨M1, w', e, c1, f1⟩ := h
  refine ⟨_, w', hX M1 e (kd561 c1.1.1), ?_, f1.pL _ (Or.inl (by unfold cWo; omega)), fun _ => by rw [dl_PL, if_pos ⟨rfl, rfl⟩]⟩
  have f3 : fr (fun a _ => a = b + 561) nz 0 0 M1 (dwPL M1 (b + 561) 0 v.toInt64) := (fr.refl M1).pL _ (Or.inl rfl)
  exact CInv.fr c1 f3 (fun a k q hk => by subst q; unfold cKeep imf at hk; omega) (fun k q => by omega)
/-- a Wrong caught -/
theorem c_failed {q : Nat} {k p : Int32} (hs : Sh b M) (hk : dwK M q = (0, 5)) (h1 : dwI M q 102 = k) (h2 : dwI M q 103 = p) (hq : q ≠ b) : m_X1_failed M b q = some (k - 10, dwPI M b 16 p) := by
  unfold m_X1_failed
  rw [xgI_u (by rw [hk]; rfl), h2, xpI_u (by rw [kd0 hs]; rfl), xgI_u (by rw [dk_PI, hk]; rfl), di_ne (Or.inl hq), h1]
/-- a new reader -/
theorem c_mkR {ci m L : Nat} (hs : tpC b M A) (hci : ci = 4 ∨ ci = 8 ∨ ci = 9 ∨ ci = 10) (hL : L ≤ (aTx A).1) : ∃ M2, m_X11_init (dwMk M (0, ci) m) (dwN M) (b + 39) (Int32.ofNat L) = some ((), M2) ∧ fr nz nz 1 m M M2 ∧ cAt b M2 A (dwN M) ci L 0 ∧ (∀ f, f ≠ 91 → dwI M2 (dwN M) f = 0) ∧ dwN M2 = dwN M + 1 := by
  have hn := shN hs.1
  have hk : dwK (dwMk M (0, ci) m) (dwN M) = (0, ci) := by rw [dk_Mk, if_pos rfl]
  have w90 : dwHasW (0, ci) 90 = true := by rcases hci with rfl | rfl | rfl | rfl <;> rfl
  have w91 : dwHasW (0, ci) 91 = true := by rcases hci with rfl | rfl | rfl | rfl <;> rfl
  have f1 : fr (atN (dwN M)) (atN (dwN M)) 1 m M (dwPI (dwPR (dwMk M (0, ci) m) (dwN M) 90 (some (b + 39))) (dwN M) 91 (Int32.ofNat L)) := ((((fr.refl (S := atN (dwN M)) (Z := atN (dwN M)) M).mk (0, ci) m).pR (a := dwN M) (k := 90) (some (b + 39)) (Or.inl (Nat.le_refl (dwN M)))).pI (a := dwN M) (k := 91) (Int32.ofNat L) (Or.inl (Nat.le_refl (dwN M)))).mono (fun _ _ z => z) (fun _ _ z => z) (by omega) (by omega)
  have f2 := f1.old (S' := nz) (Z' := nz) (fun a k ha z => by have : dwN M ≤ a := z; omega) (fun a k ha z => by have : dwN M ≤ a := z; omega)
  refine ⟨_, ?_, f2, ⟨hs.fr f2 (fun _ z => z) nz_p, ⟨?_, by omega, hci, ?_, ?_, di_eq⟩, ?_, Nat.zero_le _, hL⟩, fun f hf => ?_, rfl⟩
  · unfold m_X11_init
    rw [xpR_u (by rw [hk]; exact w90), xpI_u (by rw [dk_PR, hk]; exact w91)]
  · show dwN M < dwN M + 1; omega
  · rw [dk_PI, dk_PR]; exact hk
  · rw [dr_PI, dr_PR, if_pos ⟨rfl, rfl⟩]
  · rw [di_ne (by omega), di_PR, di_Mk, if_pos rfl]; rfl
  · rw [di_ne (by omega), di_PR, di_Mk, if_pos rfl]
end CALL
