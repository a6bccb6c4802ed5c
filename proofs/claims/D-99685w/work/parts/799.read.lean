/-! A WORK read: the component's again -/
section WK
variable {b : Nat} {w : Nat → Nat} {M : dwSt} {A : dvA} {T : dvT} {lw : (Nat → Int32) → Int32} {N d L : Nat}
theorem wk_opens {k q dd : Nat} (h : wkC b w M A T N d L k q) (hd : q + dd ≤ L) (hR : room M 1 8) : (k = 0 → bdC N 1 8 M (3, q) (m_X11_opens M N (Int32.ofNat dd))) ∧ (∀ k', k = k' + 1 → ∃ M2, m_X11_opens M N (Int32.ofNat dd) = some (.inl (), M2) ∧ fr (sLc N) nz 0 0 M M2 ∧ wkC b w M2 A T N d L k' (q + dd)) := by
  obtain ⟨h1, h2, h3, h4, ⟨h5, h6, h7⟩, h8⟩ := id h
  obtain ⟨a1, a2⟩ := cA_opens (N := N) (d := dd) h1 h2 (by omega) hd (Nat.le_refl N) hR
  refine ⟨fun e => a1 (by omega), fun k' e => ?_⟩
  obtain ⟨M2, e2, f2, c2, i94⟩ := a2 (by omega)
  have hN := shN h1.1.1
  have hb := h1.2.1.2.1
  have f2' := f2.mono (S' := sLc N) (Z' := nz) (fun a j z => ⟨z.1, by have := z.2; omega⟩) (fun _ _ z => z) (Nat.le_refl _) (Nat.le_refl _)
  exact ⟨M2, e2, f2', c2, by rw [i94]; congr 1; omega, by omega, h4.fr (by omega) f2 (fun a k z => by have := z.1; omega) (fun _ _ z => False.elim z), ⟨(f2.r h1.2.1.1 (fun z => z)).trans h5, h6.fr f2' (fun a k z _ => by rw [h8 a (Nat.le_of_eq z.1.symm)]; omega) (fun a k z _ => False.elim z), h7⟩, h8⟩
/-- one closes behind a bracket -/
theorem wk_close {k k' q : Nat} (h : wkC b w M A T N d L k' q) (hq : q < L) (hk : k = k' + 1) (hk6 : k ≤ 6) : ∀ {σ : Type} (K : dwSt → Option σ), ∃ M2, xgI M 92 N (fun v12 => xpI M 92 N (v12 + 1) (fun M13 => xgI M13 94 N (fun v14 => xpI M13 94 N (v14 - 1) K))) = K M2 ∧ fr (sLc N) nz 0 0 M M2 ∧ wkC b w M2 A T N d L k (q + 1) := by
  intro σ K
  obtain ⟨h1, h2, h3, h4, ⟨h5, h6, h7⟩, h8⟩ := id h
  have hk0 := h1.2.1.2.2.2.1
  have hN := shN h1.1.1
  have hb := h1.2.1.2.1
  have f1 : fr (sPo N) nz 0 0 M (dwPI M N 92 (Int32.ofNat (q + 1))) := (fr.refl M).pI _ (Or.inl ⟨rfl, rfl⟩)
  have c1 := h1.to f1 (fun a k z => ⟨z.1, by have := z.2; omega⟩) di_eq hq
  have l1 := wk_po h f1 c1
  have i94 : dwI (dwPI M N 92 (Int32.ofNat (q + 1))) N 94 = Int32.ofNat (6 - k') := l1.2.1
  have e0 : xgI M 92 N (fun v12 => xpI M 92 N (v12 + 1) (fun M13 => xgI M13 94 N (fun v14 => xpI M13 94 N (v14 - 1) K))) = K (dwPI (dwPI M N 92 (Int32.ofNat (q + 1))) N 94 (Int32.ofNat (6 - k') - 1)) := by
    rw [xgI_u (by rw [hk0]; rfl), h1.2.2.1, i_succ, xpI_u (by rw [hk0]; rfl), xgI_u (by rw [dk_PI, hk0]; rfl), i94, xpI_u (by rw [dk_PI, hk0]; rfl)]
  generalize dwPI M N 92 (Int32.ofNat (q + 1)) = M1 at *
  obtain ⟨g1, g2, g3, g4, ⟨g5, g6, g7⟩, g8⟩ := id l1
  have f2 : fr (fun a j => a = N ∧ j = 94) nz 0 0 M1 (dwPI M1 N 94 (Int32.ofNat (6 - k') - 1)) := (fr.refl M1).pI _ (Or.inl ⟨rfl, rfl⟩)
  have hN1 := shN g1.1.1
  refine ⟨_, e0, (f1.mono sPo_c (fun _ _ z => z) (Nat.le_refl _) (Nat.le_refl _)).t0 (f2.mono (fun a j z => ⟨z.1, by have := z.2; omega⟩) (fun _ _ z => z) (Nat.le_refl _) (Nat.le_refl _)), g1.fr f2 (fun a j z => ⟨by have := z.1; omega, fun _ => by have := z.2; omega⟩) (fun _ _ z => False.elim z), ?_, hk6, g4.fr (by omega) f2 (fun a j z => by have := z.1; omega) (fun _ _ z => False.elim z), ⟨(f2.r g1.2.1.1 (fun z => z)).trans g5, g6.fr f2 (fun a k z _ => by rw [g8 a (Nat.le_of_eq z.1.symm)]; omega) (fun a k z _ => False.elim z), g7⟩, g8⟩
  rw [di_eq, show (1 : Int32) = Int32.ofNat 1 from rfl, i_sub (by omega)]
  congr 1; omega
/-- the Again's object made whole -/
theorem c_mkAg {o n : Nat} (hk : dwK M o = (0, 25)) (ho : o < dwN M) (hR : room M 2 4) : ∃ M2, m_X30_init M o (Int32.ofNat n) = some ((), M2) ∧ fr (fun a k => a = o) (fun a k => a = o) 2 4 M M2 ∧ dwN M2 = dwN M + 2 ∧ dwK M2 o = (0, 25) ∧ dwI M2 o 122 = Int32.ofNat n ∧ dwR M2 o 123 = some (dwN M) ∧ rwL M2 (dwN M) 0 (dwN M + 1) 1 (fun _ => 0) := by
  obtain ⟨M1, e1, f1, L1, n1⟩ := c_mkL (M := M) (c := 1) (by omega) hR
  have k1 : dwK M1 o = (0, 25) := (f1.k ho).trans hk
  have f2 : fr (fun a k => a = o ∧ k = 122) (fun a k => a = o ∧ k = 123) 0 0 M1 (dwPI (dwPR M1 o 123 (some (dwN M))) o 122 (Int32.ofNat n)) := ((fr.refl M1).pR _ (Or.inl ⟨rfl, rfl⟩)).pI _ (Or.inl ⟨rfl, rfl⟩)
  refine ⟨dwPI (dwPR M1 o 123 (some (dwN M))) o 122 (Int32.ofNat n), ?_, ((f1.mono (S' := fun a k => a = o) (Z' := fun a k => a = o) (fun _ _ z => False.elim z) (fun _ _ z => False.elim z) (Nat.le_refl _) (Nat.le_refl _)).t0 (f2.mono (fun a k z => z.1) (fun a k z => z.1) (Nat.le_refl _) (Nat.le_refl _))), n1, k1, di_eq, by rw [dr_PI, dr_PR, if_pos ⟨rfl, rfl⟩], rwL_fr L1 f2 (fun z => by have := z.1; omega) (fun z => by have := z.1; omega) (fun k z => by have := z.1; omega)⟩
  unfold m_X30_init m_X23_init
  rw [xob_v, xnew_u (n := 3) (by decide) (hR.le (by omega) (by omega))]
  show xmb (m_J2_init (dwMk M (0, 26) 3) (dwN M) (Int32.ofNat 1)) _ = _
  rw [e1, xmb_v, xpR_u (by rw [k1]; rfl), xpI_u (by rw [dk_PR, k1]; rfl)]
end WK
