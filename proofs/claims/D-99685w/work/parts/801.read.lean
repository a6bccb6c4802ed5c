/-! A WORK read: the component's step -/
section WK
variable {b : Nat} {w : Nat → Nat} {M : dwSt} {A : dvA} {T : dvT} {lw : (Nat → Int32) → Int32} {N d L : Nat}
theorem c_semi {k p q' n u o : Nat} {t : stR} {M10 : dwSt} (F : fr (sLc N) nz n u M M10) (h : wkC b w M10 A T N d L k q') (hc : cStp (fun a => dwN M ≤ a) M10 T lw t.2.2 o t.1) (hNM : N < dwN M) (hn : n + 1 ≤ 3 * (q' + 1 - p)) (hu : u + 150 ≤ 60 * (q' + 1 - p)) (hp : p + 3 ≤ q') (hq' : q' ≤ L) (hR : room M10 1 8) : cSz b w A T lw N d L k p M (mpW t (sgS (xbN A) L 59 q')) (xrk M10 N 9 (xth (m_X11_need M10 N 59) (fun _ M12 => some (.inl o, M12)) (KX Nat))) := by
  have hk := h.1.2.1.2.2.2.1
  have q9 := cA_need (c := 59) (N := N) h.1 (by omega) (by omega) (Nat.le_refl N) hR
  have q9' : ndC b A N 9 L N M10 (sgS (xbN A) L 59 q') (m_X11_need M10 N 59) () := q9
  rw [xrk_u hk]
  cases hs : sgS (xbN A) L 59 q' with
  | inr e =>
    rw [hs] at q9'
    exact (bdC.pre (bdC.th (show bdC N 1 8 M10 e _ from q9')) F sLc_N nz_N).le (by omega) (by omega)
  | inl p' =>
    rw [hs] at q9'
    obtain ⟨M12, e12, f12, c12⟩ := q9'
    obtain ⟨g1, g2⟩ := sgS_le hs
    rw [e12, xth_v]
    refine ⟨M12, o, rfl, (F.t0 (f12.mono sPo_c (fun _ _ z => z) (Nat.le_refl _) (Nat.le_refl _))).mono (fun _ _ z => z) (fun _ _ z => z) (by show n ≤ 3 * (p' - p) - 1; omega) (by show u ≤ 60 * (p' - p) - 150; omega), wk_po h f12 c12, ⟨by show p + 4 ≤ p'; omega, g2⟩, cStp_fr f12 (fun a k ha => ⟨fun z => ?_, fun z => z⟩) _ _ _ hc⟩
    have := z.1
    have : dwN M ≤ a := ha
    omega
theorem c_stepF {recS : Nat → rsW} {rec : dwSt → Nat → dwR9 Nat} {k p : Nat} (hr : ∀ k', k = k' + 1 → hWec b w A T lw N d L k' recS rec) (hok : ∀ k', k = k' + 1 → ∀ p, p ≤ L → okW L p k' (recS p)) (hL : L ≤ 150) (h : wkC b w M A T N d L k p) (hR : wroom M L p) : cSz b w A T lw N d L k p M (stF T lw (xbN A) L recS k p) (F_X22_step rec M N) := by
  have hk := h.1.2.1.2.2.2.1
  have hN := h.1.2.1.1
  have hpL := h.1.2.2.2.1
  have hR' := hR
  unfold wroom at hR'
  obtain ⟨g1, g2⟩ := blS_le (X := xbN A) (L := L) _ p rfl
  have g2 := g2 hpL
  obtain ⟨M2, s, e2, f2, c2, s2, hNs⟩ := cA_word h.1 (hR'.le (by omega) (by omega))
  have l2 := wk_po h f2 c2
  have hwl := wdS_le (X := xbN A) (L := L) _ (blS (xbN A) L p) rfl g2
  have hw : ((wdS (xbN A) L (blS (xbN A) L p)).take 10).length ≤ 10 := List.length_take_le _ _
  have hsm : ∀ c ∈ (wdS (xbN A) L (blS (xbN A) L p)).take 10, smN c := fun c hc => wdS_sm (X := xbN A) (L := L) _ (blS (xbN A) L p) rfl c (List.mem_of_mem_take hc)
  unfold stF
  have hbl := blS_bl (X := xbN A) (L := L) (p := p)
  generalize blS (xbN A) L p = q at *
  have hVd : stV (xbN A) L q = swv ((wdS (xbN A) L q).take 10) swStep := rfl
  have hlen : ∀ v, swv ((wdS (xbN A) L q).take 10) swStep = v → ¬ v = -1 → (wdS (xbN A) L q).length = ((wdS (xbN A) L q).take 10).length := fun v e hv => by
    have := (swStep_len e hv).2.1
    rw [List.length_take] at this ⊢
    omega
  generalize hws : (wdS (xbN A) L q).take 10 = ws at *
  obtain ⟨vs, ⟨ks, rs⟩, rs2⟩ := id s2
  obtain ⟨M3, e3, f3, s3⟩ := c_hash s2 hw hsm
  have hk2 := l2.1.2.1.2.2.2.1
  have hn2 := f2.n
  have sN : N < s := by omega
  have c3 := l2.1.fr f3 (fun a j z => by have := z.1; have := l2.1.2.1.2.1; exact ⟨by omega, fun e => by omega⟩) (fun _ _ z => False.elim z)
  have l3 := wk_to l2 f3 (fun a j _ z => by have := z.1; exact ⟨by omega, fun e => by omega⟩) (fun _ _ _ z => False.elim z) c3
  have hk3 := l3.1.2.1.2.2.2.1
  have ks3 : dwK M3 s = (0, 28) := (f3.k rs2.2.2.2.2.1).trans ks
  have F3 : fr (sLc N) nz 4 34 M M3 := ((f2.mono (S' := fun a k => sLc N a k ∨ s ≤ a) (Z' := nz) (fun a j z => Or.inl (sPo_c a j z)) (fun _ _ z => z) (Nat.le_refl _) (Nat.le_refl _)).t0 (f3.mono (fun a j z => Or.inr (Nat.le_of_eq z.1.symm)) (fun _ _ z => z) (Nat.le_refl _) (Nat.le_refl _))).old (fun a k ha z => z.resolve_right (by omega)) (fun a k ha z => z)
  have hn3 := F3.n
  have n23 := f3.n
  unfold F_X22_step
  rw [xrk_u hk, e2, xmb_v, xrk_u ks, e3, xmb_v]
  refine jn_s (E := cSz b w A T lw N d L k p M (if stV (xbN A) L q = -1 then .inr (1, q) else mpW (vW (boW T lw (xbN A) L recS k q)) (sgR (xbN A) L 59 (poW (boW T lw (xbN A) L recS k q))))) (Q := fun J => cSz b w A T lw N d L k p M (if stV (xbN A) L q = -1 then .inr (1, q) else mpW (vW (boW T lw (xbN A) L recS k q)) (sgR (xbN A) L 59 (poW (boW T lw (xbN A) L recS k q)))) (J (swv ws swStep))) ?_ ?_
  · rw [hVd]
    by_cases h1 : swv ws swStep = -1
    · rw [if_pos h1, h1]
      dsimp only
      iterate 6 rw [if_neg (by decide)]
      rw [xrk_u hk3]
      exact (bdC.pre (c_badw (α := Nat) (N := N) (by omega) l3.1.2.1 l3.1.2.2.1 ((hR'.le (n' := 4 + 1) (u' := 34 + 8) (by omega) (by omega)).fr F3)) F3 sLc_N nz_N).le (by omega) (by omega)
    · rw [if_neg h1]
      obtain ⟨w1, w2, w3, w4⟩ := swStep_len (ws := ws) rfl h1
      have hl := hlen _ rfl h1
      by_cases h5 : swv ws swStep = 5
      · have hwa := w4 h5
        have hl5 : (wdS (xbN A) L q).length = 5 := by rw [hl, hwa]; rfl
        have hb : boW T lw (xbN A) L recS k q = if k = 0 then .inr (3, q) else agW (xbN A) L recS (q + 5) := by
          unfold boW
          rw [hVd, if_pos h5, hl5]
        rw [h5]
        dsimp only
        iterate 5 rw [if_neg (by decide)]
        rw [if_pos rfl, hb, xrk_u hk3]
        have hR3 : room M3 (3 * (L - q) + 5) (60 * (L - q) + 24) := (hR'.le (n' := 4 + (3 * (L - q) + 5)) (u' := 34 + (60 * (L - q) + 24)) (by omega) (by omega)).fr F3
        have r := c_again hr hL l3 (by omega) hR3
        generalize (if k = 0 then (.inr (3, q) : rsW) else agW (xbN A) L recS (q + 5)) = R at *
        cases R with
        | inr e => exact (bdC.pre (bdC.th r) F3 sLc_N nz_N).le (by omega) (by omega)
        | inl u =>
          obtain ⟨M4, o, e4, f4, l4, ⟨p4, p4'⟩, t4⟩ := r
          rw [e4, xth_v]
          have F4 := F3.trans f4
          exact c_semi F4 l4 (cStp_V (fun a _ ha => Nat.le_trans hn3 ha) _ _ _ t4) hN (by omega) (by omega) (by omega) p4' ((hR'.le (n' := 4 + (3 * (u.2 - q) - 10) + 1) (u' := 34 + (60 * (u.2 - q) - 300) + 8) (by omega) (by omega)).fr F4)
      · have hb : boW T lw (xbN A) L recS k q = acW T lw (xbN A) L (swv ws swStep) (q + ws.length) := by
          unfold boW
          rw [hVd, if_neg h5, hl]
        rw [hb]
        have f4 : fr (sPo N) nz 0 0 M3 (dwPI M3 N 92 (Int32.ofNat (q + ws.length))) := (fr.refl M3).pI _ (Or.inl ⟨rfl, rfl⟩)
        have c4 := l3.1.to f4 (fun a k z => ⟨z.1, by have := z.2; omega⟩) di_eq (show q + ws.length ≤ L by omega)
        have l4 := wk_po l3 f4 c4
        have s4 : strO b (dwPI M3 N 92 (Int32.ofNat (q + ws.length))) s ws := s3.fr f4 (fun a j h1 h2 z => by
          rw [show a = N from z.1, hk3] at h2
          rcases h2 with h2 | h2
          · exact absurd (congrArg Prod.snd h2) (show ¬ (9 : Nat) = 28 by omega)
          · exact absurd h2 (show ¬ (0 : Nat) = 2 by omega)) (fun _ z => z)
        have F4 := F3.t0 (f4.mono sPo_c (fun _ _ z => z) (Nat.le_refl _) (Nat.le_refl _))
        have act : cSz b w A T lw N d L k p M (mpW (vW (acW T lw (xbN A) L (swv ws swStep) (q + ws.length))) (sgR (xbN A) L 59 (poW (acW T lw (xbN A) L (swv ws swStep) (q + ws.length))))) (xgI M3 92 N (fun v6 => xrk M3 s 28 (xob (m_J9_length M3 s) (fun v7 => xpI M3 92 N (v6 + v7) (fun M8 => xrk M8 N 9 (xth (m_X22_act M8 N s) (fun v9 M10 => xrk M10 N 9 (xth (m_X11_need M10 N 59) (fun _ M12 => some (.inl v9, M12)) (KX Nat))) (KX Nat))))))) := by
          rw [xgI_u (by rw [hk3]; rfl), l3.1.2.2.1, xrk_u ks3, c_slen s3, xob_v, i_add, xpI_u (by rw [hk3]; rfl)]
          have hR4 : room (dwPI M3 N 92 (Int32.ofNat (q + ws.length))) 4 40 := (hR'.le (n' := 4 + 4) (u' := 34 + 40) (by omega) (by omega)).fr F4
          have n4 : dwN (dwPI M3 N 92 (Int32.ofNat (q + ws.length))) = dwN M3 := rfl
          generalize dwPI M3 N 92 (Int32.ofNat (q + ws.length)) = M4 at *
          have hk4 := l4.1.2.1.2.2.2.1
          have r := wk_act (lw := lw) l4 s4 hw hsm sN rfl h1 h5 (by omega) hR4
          have ok := acW_ok (T := T) (lw := lw) (X := xbN A) (L := L) (q := q + ws.length) (v := swv ws swStep) (by omega)
          rw [xrk_u hk4]
          generalize acW T lw (xbN A) L (swv ws swStep) (q + ws.length) = R at *
          cases R with
          | inr e => exact (bdC.pre (bdC.th r) F4 sLc_N nz_N).le (by omega) (by omega)
          | inl u =>
            obtain ⟨M5, o, e5, f5, l5, t5⟩ := r
            obtain ⟨k1, k2, k3, k4⟩ := ok u.1 u.2 rfl
            have F5 : fr (sLc N) nz 5 36 M M5 := ((F4.mono (S' := fun a k => sLc N a k ∨ s ≤ a) (Z' := nz) (fun a k z => Or.inl z) (fun _ _ z => z) (Nat.le_refl _) (Nat.le_refl _)).trans (f5.mono (fun a k z => z.elim (fun z => Or.inl (sNo_c a k z)) (fun z => Or.inr (Nat.le_of_eq z.symm))) (fun _ _ z => z) (Nat.le_refl _) (Nat.le_refl _))).old (fun a k ha z => z.resolve_right (by omega)) (fun a k ha z => z)
            rw [e5, xth_v]
            refine c_semi F5 l5 ?_ hN (by omega) (by omega) (by omega) k2 ((hR'.le (n' := 5 + 1) (u' := 36 + 8) (by omega) (by omega)).fr F5)
            show cStp (fun a => dwN M ≤ a) M5 T lw u.1.2.2 o u.1.1
            rw [k4]
            exact cStp_V (fun a _ ha => by have : dwN M4 ≤ a := ha; omega) _ _ _ t5
        obtain ⟨hvc, -⟩ := swAct_of (ws := ws) rfl h1 h5
        generalize swv ws swStep = v at *
        rcases hvc with rfl | rfl | rfl | rfl | rfl <;> exact act
  · intro K hK
    show cSz b w A T lw N d L k p M _ (swc M3 s (hsF 0 ws) K swStep)
    rw [sw_eq l3.2.2.2.1 s3 hw hsm swStep swStep_ok]
    exact hK
theorem c_stW (hL : L ≤ 150) : ∀ k D, k < D → ∀ p M, wkC b w M A T N d L k p → wroom M L p → cSz b w A T lw N d L k p M (stW T lw (xbN A) L k p) (m_X22_step D M N) := by
  intro k
  induction k with
  | zero =>
    intro D hD p M h hR
    obtain ⟨D, rfl⟩ : ∃ D', D = D' + 1 := ⟨D - 1, by omega⟩
    exact c_stepF (recS := fun _ => .inr (1, 0)) (rec := m_X22_step D) (fun k' e => absurd e (by omega)) (fun k' e => absurd e (by omega)) hL h hR
  | succ k ih =>
    intro D hD p M h hR
    obtain ⟨D, rfl⟩ : ∃ D', D = D' + 1 := ⟨D - 1, by omega⟩
    refine c_stepF (recS := stW T lw (xbN A) L k) (rec := m_X22_step D) (fun k' e => ?_) (fun k' e => ?_) hL h hR
    · have e' : k' = k := by omega
      subst e'
      exact fun p1 M1 _ h1 hR1 => ih D (by omega) p1 M1 h1 hR1
    · have e' : k' = k := by omega
      subst e'
      exact fun p1 hp1 => stW_ok k' p1 hp1
end WK
