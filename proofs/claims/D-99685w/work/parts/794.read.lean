/-! A WORK: the twin goes -/
section TGO
variable {b : Nat} {M : dwSt} {T : dvT} {lw : (Nat → Int32) → Int32} {ρ : Type}
theorem tG_200 {σ : dgS} (h : tG b M T lw σ) : ((200 : Int32) ≤ dwI M (b + 54) 82) ↔ σ.2.1 = 200 := by
  obtain ⟨h1, h2, h3, h4, h5, h6, h7⟩ := h
  rw [h5, show (200 : Int32) = Int32.ofNat 200 from rfl, i_le (by omega) (by omega)]
  omega
theorem tG_may {σ : dgS} (h : tG b M T lw σ) (hn : ¬ σ.2.1 = 200) : fr (sTgo b) nz 0 0 M (dwPI M (b + 54) 82 (Int32.ofNat (σ.2.1 + 1))) ∧ tG b (dwPI M (b + 54) 82 (Int32.ofNat (σ.2.1 + 1))) T lw (σ.1, σ.2.1 + 1, σ.2.2) := by
  obtain ⟨h1, h2, h3, h4, h5, h6, h7⟩ := h
  have f : fr (sTgo b) nz 0 0 M (dwPI M (b + 54) 82 (Int32.ofNat (σ.2.1 + 1))) := (fr.refl M).pI _ (Or.inl (Or.inr (Or.inr (Or.inr ⟨rfl, by omega⟩))))
  refine ⟨f, h1.fr f sTgo_f nz_p, h2, ?_, by show σ.2.1 + 1 ≤ 200; omega, di_eq, by rw [di_ne (by omega)]; exact h6, by rw [di_ne (by omega)]; exact h7⟩
  funext k
  rw [di_ne (by omega), h3]
theorem xrow {i j : Nat} (hs : Sh b M) (hi : i < 80) (hj : j < 4) {K : Int32 → Option ρ} : xgR M 71 (b + 54) (fun v => xaR M 4 v (Int32.ofNat i) (fun v2 => xaI M v2 (Int32.ofNat j) K)) = K (dwI M (b + 454 + i) j) := by
  rw [gp54_71 hs, xr453 hs hi, xaI_u (by rw [kr453 hs i hi]) (by rw [kr453 hs i hi]; exact inb_n hj (by omega)), i_nat (by omega)]
theorem xrow0 {i : Nat} (hs : Sh b M) (hi : i < 80) {K : Int32 → Option ρ} : xgR M 71 (b + 54) (fun v => xaR M 4 v (Int32.ofNat i) (fun v2 => xaI M v2 0 K)) = K (dwI M (b + 454 + i) 0) := xrow (j := 0) hs hi (by omega)
theorem xrow1 {i : Nat} (hs : Sh b M) (hi : i < 80) {K : Int32 → Option ρ} : xgR M 71 (b + 54) (fun v => xaR M 4 v (Int32.ofNat i) (fun v2 => xaI M v2 1 K)) = K (dwI M (b + 454 + i) 1) := xrow (j := 1) hs hi (by omega)
theorem xrow3 {i : Nat} (hs : Sh b M) (hi : i < 80) {K : Int32 → Option ρ} : xgR M 71 (b + 54) (fun v => xaR M 4 v (Int32.ofNat i) (fun v2 => xaI M v2 3 K)) = K (dwI M (b + 454 + i) 3) := xrow (j := 3) hs hi (by omega)
/-- again and again -/
theorem t_goRep {F0 : dwSt → Nat → Int32 → Int32 → Option (Unit × dwSt)} {d n i j : Nat} {Gs : List (dgS → dgS)} {K : dwSt → Option ρ} {x2 : Int32} (hi : i < j ∧ j ≤ 80) (hn : n ≤ 60) (hgo : ∀ M σ, tSq (tStp b M T lw d) (i + 1) j Gs → tG b M T lw σ → ∃ M', F0 M (b + 54) (Int32.ofNat (i + 1)) (Int32.ofNat j) = some ((), M') ∧ fr (sTgo b) nz 0 0 M M' ∧ tG b M' T lw (sqG Gs σ)) : ∀ m u f M σ, u + m = n → m < f → dwI M (b + 454 + i) 1 = Int32.ofNat n → dwI M (b + 454 + i) 3 = Int32.ofNat j → tSq (tStp b M T lw d) (i + 1) j Gs → tG b M T lw σ → ∃ M', L_X10_goes_42 F0 (b + 54) x2 (Int32.ofNat i) K f (Int32.ofNat u) M = K M' ∧ fr (sTgo b) nz 0 0 M M' ∧ tG b M' T lw (rpG (sqG Gs) m σ) := by
  intro m
  induction m with
  | zero =>
    intro u f M σ h1 h2 hr1 hr3 hq hσ
    obtain ⟨f, rfl⟩ : ∃ f', f = f' + 1 := ⟨f - 1, by omega⟩
    have sh := hσ.1.1
    refine ⟨M, ?_, fr.refl M, hσ⟩
    rw [L_X10_goes_42, xrow1 sh (by omega), hr1, if_pos (show Int32.ofNat n ≤ Int32.ofNat u by rw [i_le (by omega) (by omega)]; omega)]
  | succ m ih =>
    intro u f M σ h1 h2 hr1 hr3 hq hσ
    obtain ⟨f, rfl⟩ : ∃ f', f = f' + 1 := ⟨f - 1, by omega⟩
    have sh := hσ.1.1
    rw [L_X10_goes_42, xrow1 sh (by omega), hr1, if_neg (show ¬ Int32.ofNat n ≤ Int32.ofNat u by rw [i_le (by omega) (by omega)]; omega), xgI_u (by rw [kd54 sh]; rfl)]
    by_cases c : σ.2.1 = 200
    · rw [if_pos ((tG_200 hσ).mpr c)]
      have hid : idG (sqG Gs) := tSq_id (fun i j F h => tStp_id h) _ _ _ hq
      exact ⟨M, rfl, fr.refl M, by rw [rpG_id hid _ σ c]; exact hσ⟩
    · rw [if_neg (fun z => c ((tG_200 hσ).mp z)), xrow3 sh (by omega), hr3, xrk_u (kd54 sh), i_succ]
      obtain ⟨M1, e1, f1, G1⟩ := hgo M σ hq hσ
      have rf := row_fr sh f1
      obtain ⟨M2, e2, f2, G2⟩ := ih (u + 1) f M1 _ (by omega) (by omega) ((rf i 1 (by omega) (by omega)).trans hr1) ((rf i 3 (by omega) (by omega)).trans hr3) (tSq_fr (lo := 0) (hi := 80) rf _ _ _ (by omega) (by omega) hq) G1
      rw [e1, xmb_v, i_succ]
      exact ⟨M2, e2, f1.t0 f2, G2⟩
theorem t_goSeq {F0 : dwSt → Nat → Int32 → Int32 → Option (Unit × dwSt)} {d j : Nat} {K : dwSt → Option ρ} (hj : j ≤ 80) (hgo : ∀ d', d = d' + 1 → ∀ i j Gs M σ, j ≤ 80 → tSq (tStp b M T lw d') i j Gs → tG b M T lw σ → ∃ M', F0 M (b + 54) (Int32.ofNat i) (Int32.ofNat j) = some ((), M') ∧ fr (sTgo b) nz 0 0 M M' ∧ tG b M' T lw (sqG Gs σ)) : ∀ (Gs : List (dgS → dgS)) i f M σ, Gs.length < f → tSq (tStp b M T lw d) i j Gs → tG b M T lw σ → ∃ M', L_X10_goes_2 F0 (b + 54) (Int32.ofNat j) K f (Int32.ofNat i) M = K M' ∧ fr (sTgo b) nz 0 0 M M' ∧ tG b M' T lw (sqG Gs σ) := by
  intro Gs
  induction Gs with
  | nil =>
    intro i f M σ h1 hq hσ
    obtain ⟨f, rfl⟩ : ∃ f', f = f' + 1 := ⟨f - 1, by simp only [List.length_nil] at h1; omega⟩
    have e : i = j := hq
    subst e
    refine ⟨M, ?_, fr.refl M, hσ⟩
    rw [L_X10_goes_2, if_pos (Int32.le_refl _)]
  | cons G Gs ih =>
    intro i f M σ h1 hq hσ
    rw [List.length_cons] at h1
    obtain ⟨f, rfl⟩ : ∃ f', f = f' + 1 := ⟨f - 1, by omega⟩
    obtain ⟨m, g1, g2⟩ := hq
    have lt1 := tStp_lt g1
    have lt2 := tSq_le (fun i j F h => tStp_lt h) _ _ _ g2
    have sh := hσ.1.1
    have hN := shN sh
    rw [L_X10_goes_2, if_neg (show ¬ Int32.ofNat j ≤ Int32.ofNat i by rw [i_le (by omega) (by omega)]; omega), xgI_u (by rw [kd54 sh]; rfl)]
    by_cases c : σ.2.1 = 200
    · rw [if_pos ((tG_200 hσ).mpr c)]
      have hid : idG (sqG (G :: Gs)) := tSq_id (P := tStp b M T lw d) (fun i j F h => tStp_id h) (G :: Gs) i j ⟨m, g1, g2⟩
      exact ⟨M, rfl, fr.refl M, by rw [hid σ c]; exact hσ⟩
    · obtain ⟨f1, G1⟩ := tG_may hσ c
      have h5 := hσ.2.2.2.2.1
      rw [if_neg (fun z => c ((tG_200 hσ).mp z)), xgI_u (by rw [kd54 sh]; rfl), h5, i_succ, xpI_u (by rw [kd54 sh]; rfl)]
      have rf1 := row_fr sh f1
      obtain ⟨d, rfl⟩ : ∃ d', d = d' + 1 := by
        cases d with
        | zero => exact False.elim g1
        | succ d => exact ⟨d, rfl⟩
      have g1' := tStp_fr (lo := 0) (hi := 80) rf1 _ _ _ _ (by omega) (by omega) g1
      have g2' := tSq_fr (lo := 0) (hi := 80) rf1 _ _ _ (by omega) (by omega) g2
      generalize dwPI M (b + 54) 82 (Int32.ofNat (σ.2.1 + 1)) = M4 at *
      have sh4 := G1.1.1
      have hN4 := shN sh4
      obtain ⟨⟨-, -, c3⟩, g1'⟩ := g1'
      rw [xrow0 sh4 (by omega), jn_u]
      have tail : ∀ M8 σ8, fr (sTgo b) nz 0 0 M4 M8 → tG b M8 T lw σ8 → ∃ M', xgR M8 71 (b + 54) (fun v9 => xaR M8 4 v9 (Int32.ofNat i) (fun v10 => xaI M8 v10 3 (fun v11 => L_X10_goes_2 F0 (b + 54) (Int32.ofNat j) K f v11 M8))) = K M' ∧ fr (sTgo b) nz 0 0 M M' ∧ tG b M' T lw (sqG Gs σ8) := fun M8 σ8 f8 G8 => by
        have rf8 := row_fr sh4 f8
        rw [xrow3 G8.1.1 (by omega), rf8 i 3 (by omega) (by omega), c3]
        obtain ⟨M9, e9, f9, G9⟩ := ih m f M8 σ8 (by omega) (tSq_fr (lo := 0) (hi := 80) rf8 _ _ _ (by omega) (by omega) g2') G8
        exact ⟨M9, e9, (f1.t0 f8).t0 f9, G9⟩
      rcases g1' with ⟨k, a, cc, hv, hr, rfl⟩ | ⟨n, Gi, hn, r0, r1, hq, rfl⟩
      · have hk5 := acV_k hv
        have nk : ¬ dwI M4 (b + 454 + i) 0 = 5 := by
          rw [hr.1, show (5 : Int32) = Int32.ofNat 5 from rfl, i_inj (by omega) (by omega)]; omega
        obtain ⟨M5, e5, f5, s5⟩ := t_does G1.1 G1.2.1 (kr453 sh4 i (by omega)) hr hv
        have e534 : dwI M4 (b + 534) = σ.1 := G1.2.2.1
        rw [e534] at e5 s5
        have f5' : fr (sTgo b) nz 0 0 M4 M5 := f5.mono (fun x k z => by unfold sRK at z; unfold sTgo; omega) (fun _ _ z => z) (Nat.le_refl _) (Nat.le_refl _)
        have E5 := G1.1.fr f5' sTgo_f nz_p
        have sh5 := E5.1
        have i82 : dwI M5 (b + 54) 82 = Int32.ofNat (σ.2.1 + 1) := (f5.i (by omega) (by unfold sRK; omega)).trans G1.2.2.2.2.1
        have i83 : dwI M5 (b + 54) 83 = σ.2.2.1 := (f5.i (by omega) (by unfold sRK; omega)).trans G1.2.2.2.2.2.1
        have i79 : dwI M5 (b + 54) 79 = σ.2.2.2 := (f5.i (by omega) (by unfold sRK; omega)).trans G1.2.2.2.2.2.2
        have fin : ∀ v1 v2, fr (sTgo b) nz 0 0 M4 (dwPI (dwPI M5 (b + 54) 83 v1) (b + 54) 79 v2) ∧ tG b (dwPI (dwPI M5 (b + 54) 83 v1) (b + 54) 79 v2) T lw (acS T lw k a cc σ.1, σ.2.1 + 1, v1, v2) := fun v1 v2 => by
          have f6 : fr (sTgo b) nz 0 0 M4 (dwPI (dwPI M5 (b + 54) 83 v1) (b + 54) 79 v2) := (f5'.pI _ (Or.inl (Or.inr (Or.inr (Or.inr ⟨rfl, by omega⟩))))).pI _ (Or.inl (Or.inr (Or.inr (Or.inr ⟨rfl, by omega⟩))))
          refine ⟨f6, G1.1.fr f6 sTgo_f nz_p, G1.2.1, ?_, by show σ.2.1 + 1 ≤ 200; have := hσ.2.2.2.1; omega, ?_, ?_, di_eq⟩
          · funext q
            rw [di_ne (by omega), di_ne (by omega), s5]
          · rw [di_ne (by omega), di_ne (by omega)]; exact i82
          · rw [di_ne (by omega), di_eq]
        rw [if_neg nk, gp54_73 sh4, gp54_71 sh4, xr453 sh4 (by omega), xrk_u (kd54 sh4), e5, xmb_v, xgI_u (by rw [kd54 sh5]; rfl), i83, jn_u]
        have es : stG T lw k a cc σ = (acS T lw k a cc σ.1, σ.2.1 + 1, σ.2.2.1 + (if acF k a cc σ.1 = 0 then 0 else 1), σ.2.2.2 + (if acF k a cc σ.1 = 0 then 1 else 0)) := if_neg c
        show ∃ M', _ ∧ fr (sTgo b) nz 0 0 M M' ∧ tG b M' T lw (sqG Gs (stG T lw k a cc σ))
        rw [es]
        by_cases z : acF k a cc σ.1 = 0
        · simp only [if_pos z]
          rw [xpI_u (by rw [kd54 sh5]; rfl), xgI_u (by rw [dk_PI, kd54 sh5]; rfl), di_ne (by omega), i79, jn_u]
          dsimp only
          rw [xpI_u (by rw [dk_PI, kd54 sh5]; rfl)]
          exact tail _ _ (fin _ _).1 (fin _ _).2
        · simp only [if_neg z]
          rw [xpI_u (by rw [kd54 sh5]; rfl), xgI_u (by rw [dk_PI, kd54 sh5]; rfl), di_ne (by omega), i79, jn_u]
          dsimp only
          rw [xpI_u (by rw [dk_PI, kd54 sh5]; rfl)]
          exact tail _ _ (fin _ _).1 (fin _ _).2
      · have es : agG n (sqG Gi) σ = rpG (sqG Gi) n (σ.1, σ.2.1 + 1, σ.2.2) := if_neg c
        obtain ⟨M5, e5, f5, G5⟩ := t_goRep (K := fun (M27 : dwSt) => xgR M27 71 (b + 54) (fun v9 => xaR M27 4 v9 (Int32.ofNat i) (fun v10 => xaI M27 v10 3 (fun v11 => L_X10_goes_2 F0 (b + 54) (Int32.ofNat j) K f v11 M27)))) (x2 := Int32.ofNat j) ⟨lt1, by omega⟩ hn (fun M σ h1 h2 => hgo d rfl _ _ _ M σ (by omega) h1 h2) n 0 1000000 M4 _ (by omega) (by omega) r1 c3 hq G1
        obtain ⟨M6, e6, f6, G6⟩ := tail M5 _ f5 G5
        refine ⟨M6, ?_, f6, ?_⟩
        · rw [if_pos r0, jn_u]
          exact e5.trans e6
        · show tG b M6 T lw (sqG Gs (agG n (sqG Gi) σ))
          rw [es]; exact G6
theorem t_goes : ∀ d D, d < D → ∀ i j Gs M σ, j ≤ 80 → tSq (tStp b M T lw d) i j Gs → tG b M T lw σ → ∃ M', m_X10_goes D M (b + 54) (Int32.ofNat i) (Int32.ofNat j) = some ((), M') ∧ fr (sTgo b) nz 0 0 M M' ∧ tG b M' T lw (sqG Gs σ) := by
  intro d
  induction d with
  | zero =>
    intro D hD i j Gs M σ hj hq hσ
    obtain ⟨D, rfl⟩ : ∃ D', D = D' + 1 := ⟨D - 1, by omega⟩
    have hl := tSq_le (fun i j F h => tStp_lt h) _ _ _ hq
    obtain ⟨M', e, f, G⟩ := t_goSeq (F0 := m_X10_goes D) (K := fun (M1 : dwSt) => (some ((), M1) : Option (Unit × dwSt))) hj (fun d' e => absurd e (by omega)) Gs i 1000000 M σ (by omega) hq hσ
    refine ⟨M', ?_, f, G⟩
    show F_X10_goes (m_X10_goes D) M (b + 54) (Int32.ofNat i) (Int32.ofNat j) = _
    unfold F_X10_goes
    rw [jn_u]; exact e
  | succ d ih =>
    intro D hD i j Gs M σ hj hq hσ
    obtain ⟨D, rfl⟩ : ∃ D', D = D' + 1 := ⟨D - 1, by omega⟩
    have hl := tSq_le (fun i j F h => tStp_lt h) _ _ _ hq
    obtain ⟨M', e, f, G⟩ := t_goSeq (F0 := m_X10_goes D) (K := fun (M1 : dwSt) => (some ((), M1) : Option (Unit × dwSt))) hj (fun d' e => by
      have e' : d' = d := by omega
      subst e'
      exact ih D (by omega)) Gs i 1000000 M σ (by omega) hq hσ
    refine ⟨M', ?_, f, G⟩
    show F_X10_goes (m_X10_goes D) M (b + 54) (Int32.ofNat i) (Int32.ofNat j) = _
    unfold F_X10_goes
    rw [jn_u]; exact e
end TGO
