/-! A LAND: the component's call, whole -/
def begN (A : dvA) (T : dvT) : Nat → Int32 := fun k => if k < 79 then begR (tjug T) k else aNow A k
def aLa (A : dvA) (T : dvT) : dvA := (T, cusV, (0, g00), begN A T, (0, A.2.2.2.2.1.2), (0, A.2.2.2.2.2.1.2), 0, -1, (0, A.2.2.2.2.2.2.2.2.1.2), A.2.2.2.2.2.2.2.2.2)
theorem aLa_ok {A : dvA} {T : dvT} (hT : tOK T) : allOK (aLa A T) := ⟨hT, ⟨Nat.zero_le _, fun k hk => absurd hk (Nat.not_lt_zero k), fun k l hk => absurd hk (Nat.not_lt_zero k)⟩, rowD_beg hT fun k hk => if_pos hk, Nat.zero_le _, fun r hr => absurd hr (Nat.not_lt_zero r), Nat.zero_le _, fun r hr => absurd hr (Nat.not_lt_zero r), Nat.zero_le _, fun k hk => absurd hk (Nat.not_lt_zero k)⟩
def sLa (b : Nat) : Nat → Nat → Prop := fun a k => (a = b ∧ (k = 11 ∨ k = 12 ∨ k = 13 ∨ k = 15 ∨ k = 16 ∨ k = 17)) ∨ a = b + 21 ∨ (b + 23 ≤ a ∧ a ≤ b + 28)
def zLa (b : Nat) : Nat → Nat → Prop := fun a k => a = b ∧ (k = 0 ∨ k = 1)
section LAND
variable {b : Nat} {w : Nat → Nat} {M : dwSt} {A : dvA}
theorem zLa_p : ∀ a k, zLa b a k → ¬ ptr b a k := fun a k z => by unfold zLa at z; unfold ptr; omega
theorem fs4 : (dwFs 4).length = 6 := by decide
/-- a fault caught: the component's end -/
theorem C_fault {N n u n' u' : Nat} {e : Nat × Nat} {M1 M2 : dwSt} {q : Nat} (hC : CInv b w M A) (f1 : fr (fun a k => a = b ∧ k = 16) nz n u M M1) (hN : N = dwN M) (f2 : fr (atN N) (atN N) n' u' M1 M2) (hn : n + n' ≤ 9000) (hu : u + u' ≤ 113000) (hq : N ≤ q ∧ q < dwN M2) (hk2 : dwK M2 q = (0, 5)) (h102 : dwI M2 q 102 = Int32.ofNat e.1) (h103 : dwI M2 q 103 = Int32.ofNat e.2) : ∃ M3, xmb (m_X1_failed M2 b q) (fun v13 M14 => xpI M14 15 b 0 (fun M15 => (some (.inl v13, M15) : dwR9 Int32))) = some (.inl (Int32.ofNat e.1 - 10), M3) ∧ Sh b M2 ∧ CInv b w M3 (aRd A (aBk A) (Int32.ofNat e.2)) ∧ fr (cWo b) (zWo b) 9000 113000 M M3 := by
  have hs := hC.1.sh
  have hNb := shN hs
  have hO := hC.1.ok
  have F2 : fr (fun a k => (a = b ∧ (k = 15 ∨ k = 16)) ∨ dwN M ≤ a) (fun a _ => dwN M ≤ a) (n + n') (u + u') M M2 := (f1.mono (S' := fun a k => (a = b ∧ (k = 15 ∨ k = 16)) ∨ dwN M ≤ a) (Z' := fun a _ => dwN M ≤ a) (fun _ _ z => Or.inl ⟨z.1, Or.inr z.2⟩) (fun _ _ z => False.elim z) (Nat.le_refl _) (Nat.le_refl _)).trans (f2.mono (fun a k z => Or.inr (hN ▸ z)) (fun a k z => by have : N ≤ a := z; omega) (Nat.le_refl _) (Nat.le_refl _))
  have F2' : fr (fun a k => a = b ∧ (k = 15 ∨ k = 16)) nz (n + n') (u + u') M M2 := F2.old (fun a k ha z => z.resolve_right (by omega)) (fun a k ha z => absurd z (by omega))
  have s2 := hs.fr F2' nz_p
  have F3s : fr (fun a k => a = b ∧ (k = 15 ∨ k = 16)) nz (n + n') (u + u') M (dwPI (dwPI M2 b 16 (Int32.ofNat e.2)) b 15 0) := (F2'.pI _ (Or.inl ⟨rfl, Or.inr rfl⟩)).pI _ (Or.inl ⟨rfl, Or.inl rfl⟩)
  have F3 : fr (sRc b) nz (n + n') (u + u') M (dwPI (dwPI M2 b 16 (Int32.ofNat e.2)) b 15 0) := F3s.mono (fun a k z => Or.inl ⟨z.1, Or.inr z.2⟩) (fun _ _ z => z) (Nat.le_refl _) (Nat.le_refl _)
  have kb : dwK (dwPI M2 b 16 (Int32.ofNat e.2)) b = (0, 0) := kd0 s2
  refine ⟨_, ?_, s2, C_rd hC F3 (hC.1.bk.fr hs F3s (by omega) (fun k => by omega)) hO.2.1 (by rw [di_ne (by omega), di_eq]) di_eq, F3.mono (fun a k q => by unfold sRc at q; unfold cWo; omega) (fun _ _ q => False.elim q) hn hu⟩
  rw [c_failed s2 hk2 h102 h103 (by omega), xmb_v, xpI_u (by rw [kb]; rfl)]
theorem C_land {n : Nat} (hC : CInv b w M A) (hK : KS b M) (hn : n ≤ (aTx A).1) (hR : room M 9000 113000) : match laF (xbN A) n n t00 0 (blS (xbN A) n 0) with
    | .inl T => ∃ M1 w', m_X1_land M b (Int32.ofNat n) = some (.inl (Int32.ofNat (tP T)), M1) ∧ CInv b w' M1 (aLa A T) ∧ fr (cWo b) (zWo b) 9000 113000 M M1
    | .inr e => ∃ M1 w', m_X1_land M b (Int32.ofNat n) = some (.inl (Int32.ofNat e.1 - 10), M1) ∧ CInv b w' M1 (aRd A (aBk A) (Int32.ofNat e.2)) ∧ fr (cWo b) (zWo b) 9000 113000 M M1 := by
  have hs := hC.1.sh
  have hN := shN hs
  have hO := hC.1.ok
  have hx600 := (tpC_of hC).2.1
  have i15 := hC.1.tx.1
  have f5 : fr (fun a k => a = b ∧ k = 16) nz 0 0 M (dwPI M b 16 (-1)) := (fr.refl M).pI _ (Or.inl ⟨rfl, rfl⟩)
  have s5 := hs.fr f5 nz_p
  have t5 : tpC b (dwPI M b 16 (-1)) A := (tpC_of hC).fr f5 (fun k z => by omega) nz_p
  have K5 : KS b (dwPI M b 16 (-1)) := hK.fr (by omega) f5 (fun a k z => by omega) (fun _ _ z => False.elim z)
  have hR5 : room (dwPI M b 16 (-1)) 9000 113000 := hR
  have e0 : m_X1_land M b (Int32.ofNat n) = xnew (dwPI M b 16 (-1)) 4 (fun o6 M7 => xgR M7 18 b (fun v8 => xmb (m_X12_init M7 o6 v8 (Int32.ofNat n)) (fun _ M10 => xrk M10 o6 4 (xth (m_X12_reads M10 o6) (fun v11 M12 => xpR M12 0 b v11 (fun M16 => xrk M16 b 0 (xmb (m_X1_begins M16 b) (fun _ M18 => xrk M18 b 0 (xob (m_X1_persons M18 b) (fun v19 => xpI M18 15 b 0 (fun M20 => some (.inl v19, M20)))))))) (fun cl9 q9 M12 => if cl9 = 0 then xrk M12 b 0 (xmb (m_X1_failed M12 b q9) (fun v13 M14 => xpI M14 15 b 0 (fun M15 => some (.inl v13, M15)))) else none))))) := by
    unfold m_X1_land
    rw [jn_u, jn_u, if_neg (of_eq_false (i_neg (by omega))), xgI_u (by rw [kd0 hs]; rfl), i15, if_neg (by rw [i_lt (by omega) (by omega)]; omega)]
    show xrk M b 0 (xth (m_X1_need M b 1) _ _) = _
    rw [xrk_u (kd0 hs), c_need1 rfl, xth_v, xpI_u (by rw [kd0 hs]; rfl)]
  rw [e0]
  have n5 : dwN (dwPI M b 16 (-1)) = dwN M := rfl
  have i16 : dwI (dwPI M b 16 (-1)) b 16 = -1 := di_eq
  generalize dwPI M b 16 (-1) = M5 at *
  obtain ⟨M8, e8, f8, k8, z8, n8⟩ := c_mkR (ci := 4) (m := 6) (L := n) t5 (by omega) hn
  have f7 : fr nz nz 1 6 M5 (dwMk M5 (0, 4) 6) := (fr.refl M5).mk _ _
  have s7 := s5.fr f7 nz_p
  have hk8 := k8.2.1.2.2.2.1
  rw [xnew_u fs4 (hR5.le (by omega) (by omega)), gp0_18 s7]
  have hR8 : room M8 8000 100000 := (hR5.le (n' := 1 + 8000) (u' := 6 + 100000) (by omega) (by omega)).fr f8
  rw [n5] at k8 e8 z8 n8 hk8 ⊢
  -- the told begun
  have hT8 := c_mkT (M := M8) (hR8.le (by omega) (by omega))
  have fT := tolM_fr (M := M8)
  have nT := tolM_n (M := M8)
  have cT := tolM_f (M := M8)
  have e9 : m_X12_init (dwMk M5 (0, 4) 6) (dwN M) (b + 39) (Int32.ofNat n) = some ((), dwPR (tolM M8) (dwN M) 95 (some (dwN M + 1))) := by
    unfold m_X12_init
    rw [e8, xmb_v, xN1 (by unfold room at hR8; omega) (by unfold room at hR8; omega), hT8, xmb_v, xpR_u (by rw [fT.k (by omega), hk8]; rfl), n8]
  rw [n8] at cT nT
  have k9 : cAt b (tolM M8) A (dwN M) 4 n 0 := k8.fr fT (fun _ _ z => False.elim z) (fun _ _ z => False.elim z)
  generalize tolM M8 = M9 at *
  have hk9 : dwK M9 (dwN M) = (0, 4) := k9.2.1.2.2.2.1
  have f10 : fr nz (fun a k => a = dwN M ∧ k = 95) 0 0 M9 (dwPR M9 (dwN M) 95 (some (dwN M + 1))) := (fr.refl M9).pR _ (Or.inl ⟨rfl, rfl⟩)
  have k10 : cAt b (dwPR M9 (dwN M) 95 (some (dwN M + 1))) A (dwN M) 4 n 0 := ⟨k9.1.fr f10 (fun k z => z) (fun a k z => by unfold ptr; omega), k9.2.1.fr f10 (fun z => z) (fun z => by have := z.2; omega), k9.2.2.1, k9.2.2.2⟩
  have F510 : fr nz nz 9 60 M5 (dwPR M9 (dwN M) 95 (some (dwN M + 1))) := (((f8.mono (S' := nz) (Z' := fun a k => a = dwN M ∧ k = 95) (fun _ _ z => z) (fun _ _ z => False.elim z) (Nat.le_refl _) (Nat.le_refl _)).trans (fT.mono (fun _ _ z => z) (fun _ _ z => False.elim z) (Nat.le_refl _) (Nat.le_refl _))).t0 f10).old (fun _ _ _ z => z) (fun a k ha z => by have := z.1; omega)
  have l10 : lC b (dwPR M9 (dwN M) 95 (some (dwN M + 1))) A (dwN M) n t00 0 0 := by
    obtain ⟨c1, ⟨d1, d2, d3, d4, d5⟩, ⟨g5, g6, g7⟩, hz, ⟨j1, j2, j3, j4⟩, w1, w2⟩ := cT
    have hne : ∀ i, 0 < i → dwN M + i ≠ dwN M := fun i hi => by omega
    have rne : ∀ a k, a ≠ dwN M → dwR (dwPR M9 (dwN M) 95 (some (dwN M + 1))) a k = dwR M9 a k := fun a k ha => by rw [dr_PR, if_neg (fun z => ha z.1)]
    refine ⟨k10, by rw [dr_PR, if_pos ⟨rfl, rfl⟩], ⟨⟨by omega, by rw [dn_PR]; omega⟩, c1, ⟨?_, ?_, ?_, ?_, ?_⟩, ⟨g5, g6, g7⟩, fun p hp => ?_, fun e he => absurd he (Nat.not_lt_zero e), ⟨j1, j2, j3⟩, dwN M + 3, 4, _, dwN M + 5, 4, _, rwL_fr w1 f10 (fun z => z) (by omega) (fun k => by omega), fun p hp => absurd hp (Nat.not_lt_zero p), rwL_fr w2 f10 (fun z => z) (by omega) (fun k => by omega), fun p hp => absurd hp (Nat.not_lt_zero p), by omega, by omega, by omega⟩, j4, t00_ok, by omega, K5.fr (by omega) F510 (fun _ _ z => False.elim z) (fun _ _ z => False.elim z)⟩
    · rw [rne _ _ (by omega)]; exact d1
    · rw [rne _ _ (by omega)]; exact d2
    · rw [rne _ _ (by omega)]; exact d3
    · rw [rne _ _ (by omega)]; exact d4
    · rw [rne _ _ (by omega)]; exact d5
    · exact (hz p).trans rfl
  rw [e9, xmb_v]
  have hk10 : dwK (dwPR M9 (dwN M) 95 (some (dwN M + 1))) (dwN M) = (0, 4) := hk9
  have n10 : dwN (dwPR M9 (dwN M) 95 (some (dwN M + 1))) = dwN M + 9 := by rw [dn_PR]; omega
  generalize dwPR M9 (dwN M) 95 (some (dwN M + 1)) = M10 at *
  rw [xrk_u hk10]
  have hR10 : room M10 7000 90000 := (hR5.le (n' := 9 + 7000) (u' := 60 + 90000) (by omega) (by omega)).fr F510
  obtain ⟨M11, e11, f11, k11⟩ := cA_sign k10
  have l11 := lC_to l10 f11 (fun a k _ z => Or.inl ⟨z.1, Or.inl z.2⟩) (fun _ _ _ z => z) k11
  have hR11 : room M11 (8 * (61 - 0)) (240 * (61 - 0)) := (hR10.le (n' := 0 + 8 * (61 - 0)) (u' := 0 + 240 * (61 - 0)) (by omega) (by omega)).fr f11
  have r := c_laL n (blS (xbN A) n 0) 1000000 t00 0 M11 (by omega) (by omega) l11 blS_bl hR11
  have e12 : m_X12_reads M10 (dwN M) = L_X12_reads_5 (KX Nat) (dwN M) (fun (M3 : dwSt) => xgR M3 95 (dwN M) (fun v4 => some (.inl v4, M3))) 1000000 M11 := by
    unfold m_X12_reads
    rw [xrk_u hk10, e11, xmb_v, jn_u]
  rw [e12]
  have r' := (laZ.pre r f11 (fun a k z => Nat.le_of_eq z.1.symm) (fun _ _ z => False.elim z)).le (n' := 488) (u' := 14640) (by omega) (by omega)
  have F10 : fr (fun a k => a = b ∧ k = 16) nz 9 60 M M10 := (f5.trans (F510.mono (fun _ _ z => False.elim z) (fun _ _ z => z) (Nat.le_refl _) (Nat.le_refl _))).mono (fun _ _ z => z) (fun _ _ z => z) (by omega) (by omega)
  have q16 : dwI M10 b 16 = -1 := (F510.i (by omega) (fun z => z)).trans i16
  generalize L_X12_reads_5 (KX Nat) (dwN M) (fun (M3 : dwSt) => xgR M3 95 (dwN M) (fun v4 => some (.inl v4, M3))) 1000000 M11 = zz at *
  generalize laF (xbN A) n n t00 0 (blS (xbN A) n 0) = R at *
  cases R with
  | inl T =>
    obtain ⟨M12, c', p', e13, f12, l12⟩ := r'
    have hT := l12.2.2.2.2.1
    have T12 := l12.2.2.1
    rw [e13, xth_v]
    have F12 : fr (fun a k => (a = b ∧ k = 16) ∨ dwN M ≤ a) (fun a _ => dwN M ≤ a) 497 14700 M M12 := ((F10.mono (S' := fun a k => (a = b ∧ k = 16) ∨ dwN M ≤ a) (Z' := fun a _ => dwN M ≤ a) (fun _ _ z => Or.inl z) (fun _ _ z => False.elim z) (Nat.le_refl _) (Nat.le_refl _)).trans (f12.mono (fun a k z => Or.inr z) (fun _ _ z => z) (Nat.le_refl _) (Nat.le_refl _))).mono (fun _ _ z => z) (fun _ _ z => z) (by omega) (by omega)
    have F12' : fr (fun a k => a = b ∧ k = 16) nz 497 14700 M M12 := F12.old (fun a k ha z => z.resolve_right (by omega)) (fun a k ha z => absurd z (by omega))
    have s12 := hs.fr F12' nz_p
    have n12 := F12.n
    have p16 : dwI M12 b 16 = -1 := (f12.i (by omega) (fun z => by have : dwN M ≤ b := z; omega)).trans q16
    have hR12 : room M12 100 1000 := (hR.le (n' := 497 + 100) (u' := 14700 + 1000) (by omega) (by omega)).fr F12
    have f16 : fr nz (zLa b) 0 0 M12 (dwPR M12 b 0 (some (dwN M + 1))) := (fr.refl M12).pR _ (Or.inl ⟨rfl, Or.inl rfl⟩)
    have s16 : Sh b (dwPR M12 b 0 (some (dwN M + 1))) := s12.fr f16 zLa_p
    have sh16 : cShp b (dwPR M12 b 0 (some (dwN M + 1))) (b + 23) := (hC.1.now.1.fr F12' (fun _ z => z)).fr f16 (fun k z => by have := z.1; omega)
    have r16 : dwR (dwPR M12 b 0 (some (dwN M + 1))) b 0 = some (dwN M + 1) := by rw [dr_PR, if_pos ⟨rfl, rfl⟩]
    have kd16 : dwK (dwPR M12 b 0 (some (dwN M + 1))) (dwN M + 1) = (0, 1) := T12.2.1
    have i29 : dwI (dwPR M12 b 0 (some (dwN M + 1))) (dwN M + 1) 29 = tjug T := T12.2.2.2.2.2.2.1.2.1
    have n16 : dwN (dwPR M12 b 0 (some (dwN M + 1))) = dwN M12 := rfl
    have hR16 : room (dwPR M12 b 0 (some (dwN M + 1))) 100 1000 := hR12
    have hN9 := T12.1.2
    rw [xpR_u (by rw [kd0 s12]; rfl), xrk_u (kd0 s16)]
    generalize dwPR M12 b 0 (some (dwN M + 1)) = M16 at *
    obtain ⟨M18, e18, f18, rb1, cF, n18, jm1, rows, z11, z12, z13, z17⟩ := c_begins sh16 (kd0 s16) r16 (pt0_3 s16) (kd21 s16) (pt0_5 s16) kd16 (Or.inr (by omega)) (by omega) (hR16.le (by omega) (by omega))
    rw [i29] at rows
    rw [n16] at rb1 cF n18
    have F18 : fr (sBg b) (zLa b) 11 16 M12 M18 := ((f16.mono (S' := sBg b) (Z' := zLa b) (fun _ _ z => False.elim z) (fun _ _ z => z) (Nat.le_refl _) (Nat.le_refl _)).trans (f18.mono (fun _ _ z => z) (fun a k z => ⟨z.1, Or.inr z.2⟩) (Nat.le_refl _) (Nat.le_refl _))).mono (fun _ _ z => z) (fun _ _ z => z) (by omega) (by omega)
    have s18 := s12.fr F18 zLa_p
    obtain ⟨w', hw'⟩ : ∃ w' : Nat → Nat, w' = fun a => if a < dwN M then w a else if a < dwN M12 then 1 else 2 := ⟨_, rfl⟩
    have hww : ∀ a, a < dwN M → w' a = w a := fun a ha => by rw [hw']; exact if_pos ha
    have hw1 : ∀ a, dwN M ≤ a → a < dwN M12 → w' a = 1 := fun a h1 h2 => by rw [hw']; dsimp only; rw [if_neg (by omega), if_pos h2]
    have hw2 : ∀ a, dwN M12 ≤ a → w' a = 2 := fun a h1 => by rw [hw']; dsimp only; rw [if_neg (by omega), if_neg (by omega)]
    have cfS : cFree b w' (sBg b) := fun a k q hi => by unfold sBg at q; unfold imf at hi; omega
    have cfZ : cFree b w' (zLa b) := fun a k q hi => by unfold zLa at q; unfold imf at hi; omega
    have rb0 : dwR M18 b 0 = some (dwN M + 1) := (f18.r (by omega) (fun z => by have := z.2; omega)).trans r16
    have told18 : cTold b w' M18 T := ⟨dwN M + 1, rb0, (lT_told T12 hw1).fr F18 cfS cfZ, hT⟩
    rw [e18, xmb_v, xrk_u (kd0 s18), c_persons s18 told18, xob_v, xpI_u (by rw [kd0 s18]; rfl)]
    have f20 : fr (fun a k => a = b ∧ k = 15) nz 0 0 M18 (dwPI M18 b 15 0) := (fr.refl M18).pI _ (Or.inl ⟨rfl, rfl⟩)
    have F20 : fr (sLa b) (zLa b) 508 14716 M (dwPI M18 b 15 0) := (((F12'.mono (S' := sLa b) (Z' := zLa b) (fun a k z => Or.inl ⟨z.1, by have := z.2; omega⟩) (fun _ _ z => False.elim z) (Nat.le_refl _) (Nat.le_refl _)).trans (F18.mono (fun a k z => by unfold sBg at z; unfold sLa; omega) (fun _ _ z => z) (Nat.le_refl _) (Nat.le_refl _))).t0 (f20.mono (fun a k z => Or.inl ⟨z.1, by have := z.2; omega⟩) (fun _ _ z => False.elim z) (Nat.le_refl _) (Nat.le_refl _))).mono (fun _ _ z => z) (fun _ _ z => z) (by omega) (by omega)
    have n20 : dwN (dwPI M18 b 15 0) = dwN M12 + 11 := n18
    have s20 := hs.fr F20 zLa_p
    refine ⟨_, w', rfl, ⟨cCore_mk (A := aLa A T) s20 ?_ ?_ ⟨?_, fun j hj => ?_⟩ ?_ ⟨?_, fun r hr => ?_, fun r hr => absurd hr (Nat.not_lt_zero r)⟩ ⟨?_, fun i hi => ?_, fun i hi => ?_, fun r hr => absurd hr (Nat.not_lt_zero r)⟩ ?_ ?_ ⟨di_eq, fun k hk => absurd hk (Nat.not_lt_zero k)⟩ (aLa_ok hT), ?_, ?_⟩, F20.mono (fun a k q => by unfold sLa at q; unfold cWo; omega) (fun a k q => by unfold zLa at q; unfold zWo cWo ptr; omega) (by omega) (by omega)⟩
    · exact told18.fr s18 f20 (fun a k q hi => by have := q.1; unfold imf at hi; omega) nz_f (fun z => z)
    · exact ⟨cus_ext, dwN M12, 5, by omega, (f20.r (by omega) (fun z => z)).trans rb1, fun g => cus_tma (cusF_fr cF (by omega) f20 (fun i k hi => ⟨by omega, fun z => z⟩)) (fun i hi => ⟨hw2 _ (by omega), by unfold imf; omega, by omega⟩) g⟩
    · rw [di_ne (by omega)]; exact z13
    · rw [di_ne (by omega)]; exact jm1 j hj
    · exact ⟨hC.1.now.1.fr F20 (fun k z => by have := z.1; omega), cRow_c ((rows (tP T) hT.1).fr (by have := (sh16.fr f18 (fun k z => by have := z.1; omega)).1; exact this) f20 (fun i k hi => by omega)) hT.1 (fun k hk => if_pos hk)⟩
    · rw [di_ne (by omega)]; exact z11
    · exact cslot_g ((hC.1.pa.2.1 r hr).wo hww) (by omega) F20 (fun z => by have := z.1; omega) (fun a j ha _ z => by have := z.1; omega)
    · rw [di_ne (by omega)]; exact z17
    · exact cslot_g ((hC.1.im.2.1 i hi).wo hww) (by omega) F20 (fun z => by have := z.1; omega) (fun a j ha _ z => by have := z.1; omega)
    · exact cslot_g ((hC.1.im.2.2.1 i hi).wo hww) (by omega) F20 (fun z => by have := z.1; omega) (fun a j ha _ z => by have := z.1; omega)
    · rw [di_ne (by omega)]; exact z12
    · rw [di_ne (by omega)]; exact (F18.i (by omega) (by unfold sBg; omega)).trans p16
    · exact (F20.i (by omega) (by unfold sLa; omega)).trans hC.2.1
    · exact (F20.i (by omega) (by unfold sLa; omega)).trans hC.2.2
  | inr e =>
    obtain ⟨M2, q, e2, f2, hq, hk2, h102, h103⟩ := r'
    obtain ⟨M3, e3, s2, c3, f3⟩ := C_fault hC F10 rfl f2 (by omega) (by omega) hq hk2 h102 h103
    refine ⟨M3, w, ?_, c3, f3⟩
    rw [e2, xth_x, if_pos rfl, xrk_u (kd0 s2)]
    exact e3
end LAND
