/-! restore, the component's half -/
def rsJ (A : dvA) : Nat := (aIm A).1 - 1
def rsN (A : dvA) : Nat → Int32 := cp79 ((aIm A).2.2.1 (rsJ A)) (aNow A)
def aRest (A : dvA) : dvA := wSt A (rsN A) ((aIm A).2.1 (rsJ A), (aIm A).2.2.2 (rsJ A)) (rsJ A, (aIm A).2) 0
theorem aRest_ok {A : dvA} (h : allOK A) (h0 : ¬ (aIm A).1 = 0) : allOK (aRest A) := by
  obtain ⟨o1, o2, o3, o4, o5, o6, o7, o8⟩ := id h
  obtain ⟨p1, p2, p3⟩ := o7 (rsJ A) (by unfold rsJ; omega)
  exact wSt_ok h (rowD_c p2 o1.1 (fun k hk => cp79_e hk)) p1 p3 (Nat.le_trans (Nat.sub_le _ _) o6) (fun i hi => o7 i (by have : i < (aIm A).1 - 1 := hi; omega))
def sRs (b : Nat) (w : Nat → Nat) : Nat → Nat → Prop := fun a k => (a = b ∧ (k = 11 ∨ k = 12 ∨ k = 17)) ∨ (b + 23 ≤ a ∧ a ≤ b + 28) ∨ (b + 562 ≤ a ∧ 10 ≤ w a ∧ w a < 26)
def zRs (b : Nat) : Nat → Nat → Prop := fun a _ => a = b + 35
theorem zRs_p {b : Nat} : ∀ a k, zRs b a k → ¬ ptr b a k := fun a k h => by unfold zRs at h; unfold ptr; omega
section CALL
variable {b : Nat} {w : Nat → Nat} {M : dwSt} {A : dvA}
def rsI (b : Nat) (w : Nat → Nat) (M : dwSt) (A : dvA) (r : Nat) (M1 : dwSt) : Prop :=
  ∃ w', (∀ a, a < dwN M → w' a = w a) ∧ fr (sRs b w') (zRs b) (6 * r) (82 * r) M M1 ∧ cBun b w' M1 ∧ (∀ t n x, okT t → 26 ≤ t → cHat b M t n x → cHat b M1 t n x) ∧ cSea b M1 (b + 23) (tP (aT A)) (rsN A) ∧ (∀ t, t < r → cHat b M1 (10 + t) (tP (aT A)) ((aIm A).2.2.2 (rsJ A) t)) ∧ dwI M1 b 11 = Int32.ofNat ((aIm A).2.1 (rsJ A)) ∧ dwI M1 b 17 = Int32.ofNat (rsJ A)
theorem rsI_0 (hC : CInv b w M A) (h0 : ¬ (aIm A).1 = 0) : ∃ s M1, dwR M (b + 36) (rsJ A) = some s ∧ m_X9_becomes (dwPI M b 17 (Int32.ofNat (rsJ A))) (b + 23) s = some (b + 23, M1) ∧ Sh b M1 ∧ dwI M1 b 17 = Int32.ofNat (rsJ A) ∧ dwI M1 (b + 38) (rsJ A) = Int32.ofNat ((aIm A).2.1 (rsJ A)) ∧ rsI b w M A 0 (dwPI M1 b 11 (Int32.ofNat ((aIm A).2.1 (rsJ A)))) := by
  have hs := hC.1.sh
  have hn := shN hs
  have o := hC.1.ok
  have o6 := o.2.2.2.2.2.1
  have hj : rsJ A < (aIm A).1 := by unfold rsJ; omega
  obtain ⟨p1, p2, p3⟩ := hC.1.im.2.2.2 (rsJ A) hj
  have hB := bun_of hC.1.pa hC.1.im
  obtain ⟨s, s1, s2, s3, s4⟩ := hat_sea hB (Or.inr (Or.inl (by omega))) ((hat_36 (b := b) (show rsJ A < 3 by omega)).mpr p2)
  rw [(sl_36 (b := b) (show rsJ A < 3 by omega)).1, (sl_36 (b := b) (show rsJ A < 3 by omega)).2] at s1
  have fA : fr (fun a k => a = b ∧ k = 17) nz 0 0 M (dwPI M b 17 (Int32.ofNat (rsJ A))) := (fr.refl M).pI _ (Or.inl ⟨rfl, rfl⟩)
  have hNow := hC.1.now.fr fA (fun i k hi => by omega) (fun _ q => q)
  have hOld := s2.fr fA (fun i k hi => by omega) (fun _ q => q)
  obtain ⟨M1, e, f, h⟩ := c_becomes hNow.1 hOld (by omega)
  have fB : fr (sRs b w) nz 0 0 M M1 := (fA.mono (fun a k q => Or.inl (by omega)) (fun _ _ q => q) (Nat.le_refl _) (Nat.le_refl _)).t0 (f.mono (fun a k q => by unfold sSe at q; exact Or.inr (Or.inl (by omega))) (fun _ _ q => q) (Nat.le_refl _) (Nat.le_refl _))
  have fC : fr (sRs b w) nz 0 0 M (dwPI M1 b 11 (Int32.ofNat ((aIm A).2.1 (rsJ A)))) := fB.pI _ (Or.inl (Or.inl ⟨rfl, Or.inl rfl⟩))
  have fD : fr (fun a k => a = b ∧ k = 11) nz 0 0 M1 (dwPI M1 b 11 (Int32.ofNat ((aIm A).2.1 (rsJ A)))) := (fr.refl M1).pI _ (Or.inl ⟨rfl, rfl⟩)
  have e17 : dwI M1 b 17 = Int32.ofNat (rsJ A) := (f.i (by show b < dwN M; omega) (by unfold sSe; omega)).trans di_eq
  refine ⟨s, M1, s1, e, hs.fr fB nz_p, e17, ?_, w, fun _ _ => rfl, fC.mono (fun _ _ q => q) (fun _ _ q => False.elim q) (Nat.le_refl _) (Nat.le_refl _), fun t ht => cslot_g (hB t ht) (by have := sl_b (b := b) ht; omega) fC (fun q => q) (fun _ _ _ _ q => q), fun t n x ht ht2 hx => chas_g hx (hB t ht) (by have := sl_b (b := b) ht; omega) fC (fun q => q) (fun a j ha e q => ?_), ?_, fun t ht => by omega, di_eq, ?_⟩
  · exact (fB.i (by omega) (fun q => by unfold sRs at q; omega)).trans p1
  · unfold sRs at q; omega
  · have := h.fr fD (fun i k hi => by omega) (fun _ q => q)
    exact ⟨this.1, cRow_c this.2 o.1.1 (fun k hk => cp79_e hk)⟩
  · rw [di_PI, if_neg (by omega)]; exact e17
theorem rsI_s {r : Nat} {M1 : dwSt} (hC : CInv b w M A) (hR : room M 96 1312) (h0 : ¬ (aIm A).1 = 0) (hr : r < (aIm A).2.1 (rsJ A)) (h : rsI b w M A r M1) : ∃ s M2, dwR M1 (b + 37) (16 * rsJ A + r) = some s ∧ m_X1_kept M1 b (b + 35) (Int32.ofNat r) s = some ((), M2) ∧ rsI b w M A (r + 1) M2 := by
  have o := hC.1.ok
  have o6 := o.2.2.2.2.2.1
  have hj : rsJ A < (aIm A).1 := by unfold rsJ; omega
  have o7 := (o.2.2.2.2.2.2.1 _ hj).1
  obtain ⟨w', hw, f, g1, g2, g3, g4, g5, g6⟩ := h
  have hs := hC.1.sh
  have hn := shN hs
  have hs1 := hs.fr f zRs_p
  have hr16 : r < 16 := by omega
  have ht : okT (10 + r) := Or.inl (by omega)
  have hp : cHat b M1 (200 + (16 * rsJ A + r)) (tP (aT A)) ((aIm A).2.2.2 (rsJ A) r) := g2 _ _ _ (Or.inr (Or.inr (by omega))) (by omega) (hat_37.mpr ((hC.1.im.2.2.2 (rsJ A) hj).2.2 r hr))
  obtain ⟨s, s1, s2, s3, s4⟩ := hat_sea g1 (Or.inr (Or.inr (by omega))) hp
  rw [(sl_37 (b := b)).1, (sl_37 (b := b)).2] at s1
  have hR1 : room M1 6 82 := (hR.le (n' := 6 * r + 6) (u' := 82 * r + 82) (by omega) (by omega)).fr f
  obtain ⟨M2, w2, e, hw2, f2, k1, k2, k3⟩ := kept_t hs1 hR1 g1 ht s2 (Or.inr fun i hi q => by have := s4 i hi; omega)
  rw [(sl_35 (b := b) hr16).1, (sl_35 (b := b) hr16).2] at e f2
  have hn1 := f.n
  have fx : ∀ k, dwI M2 b k = dwI M1 b k := fun k => f2.i (by omega) (fun q => by have := q.1; omega)
  refine ⟨s, M2, s1, e, w2, fun a ha => (hw2 a (by omega)).trans (hw a ha), ?_, k1, fun t n x ht2 hi h => k3 t n x ht2 (by omega) (g2 t n x ht2 hi h), g3.fr f2 (fun i k hi q => by have := q.1; omega) (fun k q => by have := q.1; omega), fun t ht2 => ?_, (fx _).trans g5, (fx _).trans g6⟩
  · have fa : fr (sRs b w2) (zRs b) (6 * r) (82 * r) M M1 := f.old (fun a k ha q => by unfold sRs at q ⊢; rw [hw2 a (by omega)]; exact q) (fun _ _ _ q => q)
    have fb : fr (sRs b w2) (zRs b) 6 82 M1 M2 := f2.mono (fun a k q => Or.inr (Or.inr ⟨q.1, by have := q.2; omega⟩)) (fun a k q => q.1) (Nat.le_refl _) (Nat.le_refl _)
    exact (fa.trans fb).mono (fun _ _ q => q) (fun _ _ q => q) (by omega) (by omega)
  · by_cases e2 : t = r
    · subst e2; exact k2
    · exact k3 _ _ _ (Or.inl (by omega)) (by omega) (g4 t (by omega))
theorem rsI_end {M1 : dwSt} (hC : CInv b w M A) (h0 : ¬ (aIm A).1 = 0) (h : rsI b w M A ((aIm A).2.1 (rsJ A)) M1) : ∃ w', CInv b w' (dwPI M1 b 12 0) (aRest A) ∧ fr (sRs b w') (zRs b) 96 1312 M (dwPI M1 b 12 0) := by
  obtain ⟨w', hw, f, g1, g2, g3, g4, g5, g6⟩ := h
  have hs := hC.1.sh
  have hn := shN hs
  have o := hC.1.ok
  have o6 := o.2.2.2.2.2.1
  have hj : rsJ A < (aIm A).1 := by unfold rsJ; omega
  have o7 := (o.2.2.2.2.2.2.1 _ hj).1
  have fm : fr (sRs b w') (zRs b) 96 1312 M M1 := f.mono (fun _ _ q => q) (fun _ _ q => q) (by omega) (by omega)
  have f' : fr (sRs b w') (zRs b) 96 1312 M (dwPI M1 b 12 0) := fm.pI _ (Or.inl (Or.inl ⟨rfl, Or.inr (Or.inl rfl)⟩))
  have fz : fr (fun a k => a = b ∧ k = 12) nz 0 0 M1 (dwPI M1 b 12 0) := (fr.refl M1).pI _ (Or.inl ⟨rfl, rfl⟩)
  have hn1 : dwN M ≤ dwN M1 := f.n
  have hne : ∀ a k, a < b + 562 → (a = b → k ≠ 11 ∧ k ≠ 12 ∧ k ≠ 17) → ¬ (b + 23 ≤ a ∧ a ≤ b + 28) → ¬ sRs b w' a k := fun a k h1 h2 h4 q => by unfold sRs at q; omega
  have hF : cFree b w' (sRs b w') := fun a k q hi => by unfold sRs at q; unfold imf at hi; omega
  have hZ : cFree b w' (zRs b) := fun a k q hi => by unfold zRs at q; unfold imf at hi; omega
  have hbun : cBun b w' (dwPI M1 b 12 0) := fun t ht => cslot_g (g1 t ht) (by have := sl_b (b := b) ht; omega) fz (fun q => q) (fun _ _ _ _ q => q)
  have hhat : ∀ t n x, okT t → cHat b M1 t n x → cHat b (dwPI M1 b 12 0) t n x := fun t n x ht h => chas_g h (g1 t ht) (by have := sl_b (b := b) ht; omega) fz (fun q => q) (fun a j ha _ q => by omega)
  have hnow : cSea b (dwPI M1 b 12 0) (b + 23) (tP (aT A)) (rsN A) := g3.fr fz (fun i k hi => by omega) (fun _ q => q)
  have e11 : dwI (dwPI M1 b 12 0) b 11 = Int32.ofNat ((aIm A).2.1 (rsJ A)) := by rw [di_PI, if_neg (by omega)]; exact g5
  have e17 : dwI (dwPI M1 b 12 0) b 17 = Int32.ofNat (rsJ A) := by rw [di_PI, if_neg (by omega)]; exact g6
  have e12 : dwI (dwPI M1 b 12 0) b 12 = 0 := di_eq
  generalize dwPI M1 b 12 0 = M2 at *
  have hs2 := hs.fr f' zRs_p
  refine ⟨w', ⟨cCore_mk hs2 ((hC.1.told.wo hw).fr hs f' hF hZ (by unfold zRs; omega)) ((hC.1.law.wo hw).fr hs f' hF hZ (by unfold zRs; omega)) (hC.1.bk.fr hs f' (hne _ _ (by omega) (by omega) (by omega)) (fun k => hne _ _ (by omega) (by omega) (by omega))) hnow ⟨e11, bun_35 hbun, fun r hr => ?_⟩ ⟨e17, bun_36 hbun, bun_37 hbun, fun i hi => ?_⟩ e12 ((f'.i (by omega) (hne _ _ (by omega) (by omega) (by omega))).trans hC.1.pl) (hC.1.tx.fr hs f' (hne _ _ (by omega) (by omega) (by omega)) (fun k => hne _ _ (by omega) (by omega) (by omega))) (aRest_ok o h0), (f'.i (by omega) (hne _ _ (by omega) (by omega) (by omega))).trans hC.2.1, (f'.i (by omega) (hne _ _ (by omega) (by omega) (by omega))).trans hC.2.2⟩, f'⟩
  · have hr' : r < (aIm A).2.1 (rsJ A) := hr
    exact (hat_35 (by omega)).mp (hhat _ _ _ (Or.inl (by omega)) (g4 r hr'))
  · have hi' : i < rsJ A := hi
    obtain ⟨p1, p2, p3⟩ := hC.1.im.2.2.2 i (by omega)
    have o7 := (o.2.2.2.2.2.2.1 i (by omega)).1
    exact ⟨(f'.i (by omega) (hne _ _ (by omega) (by omega) (by omega))).trans p1, (hat_36 (by omega)).mp (hhat _ _ _ (Or.inr (Or.inl (by omega))) (g2 _ _ _ (Or.inr (Or.inl (by omega))) (by omega) ((hat_36 (by omega)).mpr p2))), fun r hr => by
      have hr' : r < (aIm A).2.1 i := hr
      exact hat_37.mp (hhat _ _ _ (Or.inr (Or.inr (by omega))) (g2 _ _ _ (Or.inr (Or.inr (by omega))) (by omega) (hat_37.mpr (p3 r hr))))⟩
end CALL
