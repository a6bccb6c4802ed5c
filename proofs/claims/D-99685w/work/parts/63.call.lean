/-! image, the component's half -/
def inI (i t : Nat) : Prop := t = 100 + i ∨ (200 + 16 * i ≤ t ∧ t < 216 + 16 * i)
def sIm (b i : Nat) (w : Nat → Nat) : Nat → Nat → Prop := fun a _ => b + 562 ≤ a ∧ inI i (w a)
def zIm (b : Nat) : Nat → Nat → Prop := fun a _ => a = b + 36 ∨ a = b + 37
theorem zIm_p {b : Nat} : ∀ a k, zIm b a k → ¬ ptr b a k := fun a k h => by unfold zIm at h; unfold ptr; omega
def imgI (A : dvA) : Nat × (Nat → Nat) × (Nat → Nat → Int32) × (Nat → Nat → Nat → Int32) := ((aIm A).1 + 1, fun k => if k = (aIm A).1 then (aPa A).1 else (aIm A).2.1 k, fun k => if k = (aIm A).1 then aNow A else (aIm A).2.2.1 k, fun k => if k = (aIm A).1 then (aPa A).2 else (aIm A).2.2.2 k)
def aImage (A : dvA) : dvA := wSt A (aNow A) (aPa A) (imgI A) (aRs A)
theorem aImage_ok {A : dvA} (h : allOK A) (h3 : (aIm A).1 < 3) : allOK (aImage A) := by
  obtain ⟨o1, o2, o3, o4, o5, o6, o7, o8⟩ := id h
  refine wSt_ok h o3 o4 o5 h3 fun i hi => ?_
  have hi' : i < (aIm A).1 + 1 := hi
  show (if i = (aIm A).1 then (aPa A).1 else (aIm A).2.1 i) ≤ 16 ∧ rowD (aT A) (if i = (aIm A).1 then aNow A else (aIm A).2.2.1 i) ∧ ∀ r, r < (if i = (aIm A).1 then (aPa A).1 else (aIm A).2.1 i) → rowD (aT A) ((if i = (aIm A).1 then (aPa A).2 else (aIm A).2.2.2 i) r)
  by_cases e : i = (aIm A).1
  · rw [if_pos e, if_pos e, if_pos e]; exact ⟨o4, o3, o5⟩
  · rw [if_neg e, if_neg e, if_neg e]; exact o7 i (by omega)
section CALL
variable {b : Nat} {w : Nat → Nat} {M : dwSt} {A : dvA}
def imJ (b : Nat) (w : Nat → Nat) (M : dwSt) (A : dvA) (r : Nat) (M1 : dwSt) : Prop :=
  ∃ w', (∀ a, a < dwN M → w' a = w a) ∧ fr (sIm b (aIm A).1 w') (zIm b) (6 * (r + 1)) (82 * (r + 1)) M M1 ∧ cBun b w' M1 ∧ (∀ t n x, okT t → ¬ inI (aIm A).1 t → cHat b M t n x → cHat b M1 t n x) ∧ cHat b M1 (100 + (aIm A).1) (tP (aT A)) (aNow A) ∧ ∀ t, t < r → cHat b M1 (200 + (16 * (aIm A).1 + t)) (tP (aT A)) ((aPa A).2 t)
theorem imJ_0 (hC : CInv b w M A) (hR : room M 102 1394) (h3 : (aIm A).1 < 3) : ∃ M1, m_X1_kept M b (b + 36) (Int32.ofNat (aIm A).1) (b + 23) = some ((), M1) ∧ imJ b w M A 0 M1 := by
  have hs := hC.1.sh
  obtain ⟨M1, w', e, hw, f, g1, g2, g3⟩ := kept_t (t := 100 + (aIm A).1) hs (hR.le (by omega) (by omega)) (bun_of hC.1.pa hC.1.im) (Or.inr (Or.inl (by omega))) hC.1.now (Or.inl (by omega))
  rw [(sl_36 (b := b) h3).1, (sl_36 (b := b) h3).2] at e f
  refine ⟨M1, e, w', hw, f.mono (fun a k q => ⟨q.1, Or.inl q.2⟩) (fun a k q => Or.inl q.1) (by omega) (by omega), g1, fun t n x ht hi h => g3 t n x ht (fun q => hi (Or.inl q)) h, g2, fun t ht => by omega⟩
theorem imJ_s {r : Nat} {M1 : dwSt} (hC : CInv b w M A) (hR : room M 102 1394) (h3 : (aIm A).1 < 3) (hr : r < (aPa A).1) (h : imJ b w M A r M1) : ∃ s M2, dwR M1 (b + 35) r = some s ∧ m_X1_kept M1 b (b + 37) (Int32.ofNat (16 * (aIm A).1 + r)) s = some ((), M2) ∧ imJ b w M A (r + 1) M2 := by
  have o4 := hC.1.ok.2.2.2.1
  obtain ⟨w', hw, f, g1, g2, g3, g4⟩ := h
  have hs := hC.1.sh
  have hs1 := hs.fr f zIm_p
  have hr16 : r < 16 := by omega
  have ht : okT (200 + (16 * (aIm A).1 + r)) := Or.inr (Or.inr (by omega))
  have hp : cHat b M1 (10 + r) (tP (aT A)) ((aPa A).2 r) := g2 _ _ _ (Or.inl (by omega)) (by unfold inI; omega) ((hat_35 hr16).mpr (hC.1.pa.2.2 r hr))
  obtain ⟨s, s1, s2, s3, s4⟩ := hat_sea g1 (Or.inl (by omega)) hp
  rw [(sl_35 (b := b) hr16).1, (sl_35 (b := b) hr16).2] at s1
  have hR1 : room M1 6 82 := (hR.le (n' := 6 * (r + 1) + 6) (u' := 82 * (r + 1) + 82) (by omega) (by omega)).fr f
  obtain ⟨M2, w2, e, hw2, f2, k1, k2, k3⟩ := kept_t hs1 hR1 g1 ht s2 (Or.inr fun i hi q => by have := s4 i hi; omega)
  rw [(sl_37 (b := b)).1, (sl_37 (b := b)).2] at e f2
  have hn1 := f.n
  refine ⟨s, M2, s1, e, w2, fun a ha => (hw2 a (by omega)).trans (hw a ha), ?_, k1, fun t n x ht2 hi h => k3 t n x ht2 (fun q => hi (Or.inr (by omega))) (g2 t n x ht2 hi h), k3 _ _ _ (Or.inr (Or.inl (by omega))) (by omega) g3, fun t ht2 => ?_⟩
  · have fa : fr (sIm b (aIm A).1 w2) (zIm b) (6 * (r + 1)) (82 * (r + 1)) M M1 := f.old (fun a k ha q => ⟨q.1, by rw [hw2 a (by omega)]; exact q.2⟩) (fun _ _ _ q => q)
    have fb : fr (sIm b (aIm A).1 w2) (zIm b) 6 82 M1 M2 := f2.mono (fun a k q => ⟨q.1, Or.inr (by have := q.2; omega)⟩) (fun a k q => Or.inr q.1) (Nat.le_refl _) (Nat.le_refl _)
    exact (fa.trans fb).mono (fun _ _ q => q) (fun _ _ q => q) (by omega) (by omega)
  · by_cases e2 : t = r
    · subst e2; exact k2
    · exact k3 _ _ _ (Or.inr (Or.inr (by omega))) (by omega) (g4 t (by omega))
def sIq (b i : Nat) (w : Nat → Nat) : Nat → Nat → Prop := fun a k => sIm b i w a k ∨ (a = b ∧ k = 17) ∨ (a = b + 38 ∧ k = i)
theorem imJ_end {M1 : dwSt} (hC : CInv b w M A) (h3 : (aIm A).1 < 3) (h : imJ b w M A (aPa A).1 M1) : ∃ w', CInv b w' (dwPI (dwPI M1 (b + 38) (aIm A).1 (Int32.ofNat (aPa A).1)) b 17 (Int32.ofNat ((aIm A).1 + 1))) (aImage A) ∧ fr (sIq b (aIm A).1 w') (zIm b) 102 1394 M (dwPI (dwPI M1 (b + 38) (aIm A).1 (Int32.ofNat (aPa A).1)) b 17 (Int32.ofNat ((aIm A).1 + 1))) := by
  obtain ⟨w', hw, f, g1, g2, g3, g4⟩ := h
  have hs := hC.1.sh
  have hn := shN hs
  have o := hC.1.ok
  have o4 := o.2.2.2.1
  have fm : fr (sIq b (aIm A).1 w') (zIm b) 102 1394 M M1 := f.mono (fun a k q => Or.inl q) (fun _ _ q => q) (by omega) (by omega)
  have f' : fr (sIq b (aIm A).1 w') (zIm b) 102 1394 M (dwPI (dwPI M1 (b + 38) (aIm A).1 (Int32.ofNat (aPa A).1)) b 17 (Int32.ofNat ((aIm A).1 + 1))) := (fm.pI _ (Or.inl (Or.inr (Or.inr ⟨rfl, rfl⟩)))).pI _ (Or.inl (Or.inr (Or.inl ⟨rfl, rfl⟩)))
  have fz : fr (fun a k => (a = b ∧ k = 17) ∨ (a = b + 38 ∧ k = (aIm A).1)) nz 0 0 M1 (dwPI (dwPI M1 (b + 38) (aIm A).1 (Int32.ofNat (aPa A).1)) b 17 (Int32.ofNat ((aIm A).1 + 1))) := ((fr.refl M1).pI _ (Or.inl (Or.inr ⟨rfl, rfl⟩))).pI _ (Or.inl (Or.inl ⟨rfl, rfl⟩))
  have hq1 : dwI (dwPI (dwPI M1 (b + 38) (aIm A).1 (Int32.ofNat (aPa A).1)) b 17 (Int32.ofNat ((aIm A).1 + 1))) b 17 = Int32.ofNat ((aIm A).1 + 1) := di_eq
  have hq2 : dwI (dwPI (dwPI M1 (b + 38) (aIm A).1 (Int32.ofNat (aPa A).1)) b 17 (Int32.ofNat ((aIm A).1 + 1))) (b + 38) (aIm A).1 = Int32.ofNat (aPa A).1 := by rw [di_PI, if_neg (by omega)]; exact di_eq
  have hn1 : dwN M ≤ dwN M1 := f.n
  have hne : ∀ a k, a < b + 562 → (a = b → k ≠ 17) → a ≠ b + 38 → ¬ sIq b (aIm A).1 w' a k := fun a k h1 h2 h4 q => by
    rcases q with q | q | q
    · have := q.1; omega
    · exact h2 q.1 q.2
    · exact h4 q.1
  have hF : cFree b w' (sIq b (aIm A).1 w') := fun a k q hi => by
    rcases q with q | q | q
    · have := q.2; unfold inI at this; omega
    · unfold imf at hi; omega
    · unfold imf at hi; omega
  have hZ : cFree b w' (zIm b) := fun a k q hi => by unfold zIm at q; unfold imf at hi; omega
  have hbun : cBun b w' (dwPI (dwPI M1 (b + 38) (aIm A).1 (Int32.ofNat (aPa A).1)) b 17 (Int32.ofNat ((aIm A).1 + 1))) := fun t ht => cslot_g (g1 t ht) (by have := sl_b (b := b) ht; omega) fz (fun q => q) (fun _ _ _ _ q => q)
  have hhat : ∀ t n x, okT t → cHat b M1 t n x → cHat b (dwPI (dwPI M1 (b + 38) (aIm A).1 (Int32.ofNat (aPa A).1)) b 17 (Int32.ofNat ((aIm A).1 + 1))) t n x := fun t n x ht h => chas_g h (g1 t ht) (by have := sl_b (b := b) ht; omega) fz (fun q => q) (fun a j ha _ q => by omega)
  generalize dwPI (dwPI M1 (b + 38) (aIm A).1 (Int32.ofNat (aPa A).1)) b 17 (Int32.ofNat ((aIm A).1 + 1)) = M2 at *
  have hs2 := hs.fr f' zIm_p
  refine ⟨w', ⟨cCore_mk hs2 ((hC.1.told.wo hw).fr hs f' hF hZ (by unfold zIm; omega)) ((hC.1.law.wo hw).fr hs f' hF hZ (by unfold zIm; omega)) (hC.1.bk.fr hs f' (hne _ _ (by omega) (by omega) (by omega)) (fun k => hne _ _ (by omega) (by omega) (by omega))) (hC.1.now.fr f' (fun i k hi => hne _ _ (by omega) (by omega) (by omega)) (fun k => by unfold zIm; omega)) ⟨(f'.i (by omega) (hne _ _ (by omega) (by omega) (by omega))).trans hC.1.pa.1, bun_35 hbun, fun r hr => ?_⟩ ⟨hq1, bun_36 hbun, bun_37 hbun, fun i hi => ?_⟩ ((f'.i (by omega) (hne _ _ (by omega) (by omega) (by omega))).trans hC.1.rs) ((f'.i (by omega) (hne _ _ (by omega) (by omega) (by omega))).trans hC.1.pl) (hC.1.tx.fr hs f' (hne _ _ (by omega) (by omega) (by omega)) (fun k => hne _ _ (by omega) (by omega) (by omega))) (aImage_ok o h3), (f'.i (by omega) (hne _ _ (by omega) (by omega) (by omega))).trans hC.2.1, (f'.i (by omega) (hne _ _ (by omega) (by omega) (by omega))).trans hC.2.2⟩, f'⟩
  · have hr' : r < (aPa A).1 := hr
    exact (hat_35 (by omega)).mp (hhat _ _ _ (Or.inl (by omega)) (g2 _ _ _ (Or.inl (by omega)) (by unfold inI; omega) ((hat_35 (by omega)).mpr (hC.1.pa.2.2 r hr'))))
  · have hi' : i < (aIm A).1 + 1 := hi
    show dwI M2 (b + 38) i = Int32.ofNat (if i = (aIm A).1 then (aPa A).1 else (aIm A).2.1 i) ∧ cHas M2 (b + 36) i (tP (aT A)) (if i = (aIm A).1 then aNow A else (aIm A).2.2.1 i) ∧ ∀ r, r < (if i = (aIm A).1 then (aPa A).1 else (aIm A).2.1 i) → cHas M2 (b + 37) (16 * i + r) (tP (aT A)) ((if i = (aIm A).1 then (aPa A).2 else (aIm A).2.2.2 i) r)
    by_cases e : i = (aIm A).1
    · rw [if_pos e, if_pos e, if_pos e, e]
      exact ⟨hq2, (hat_36 (by omega)).mp (hhat _ _ _ (Or.inr (Or.inl (by omega))) g3), fun r hr => hat_37.mp (hhat _ _ _ (Or.inr (Or.inr (by omega))) (g4 r hr))⟩
    · rw [if_neg e, if_neg e, if_neg e]
      obtain ⟨p1, p2, p3⟩ := hC.1.im.2.2.2 i (by omega)
      have o7 := (o.2.2.2.2.2.2.1 i (by omega)).1
      refine ⟨(f'.i (by omega) (fun q => ?_)).trans p1, (hat_36 (by omega)).mp (hhat _ _ _ (Or.inr (Or.inl (by omega))) (g2 _ _ _ (Or.inr (Or.inl (by omega))) (by unfold inI; omega) ((hat_36 (by omega)).mpr p2))), fun r hr => hat_37.mp (hhat _ _ _ (Or.inr (Or.inr (by omega))) (g2 _ _ _ (Or.inr (Or.inr (by omega))) (by unfold inI; omega) (hat_37.mpr (p3 r hr))))⟩
      rcases q with q | q | q
      · have := q.1; omega
      · omega
      · omega
end CALL
