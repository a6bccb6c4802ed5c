/-! A BOOK: the component's call -/
def g00 : Nat → Nat → Int32 := fun _ _ => 0
section CALL
variable {b : Nat} {w : Nat → Nat} {M : dwSt} {A : dvA}
/-- what reading a book comes to -/
def boZ (b : Nat) (A : dvA) (o ra L J N : Nat) (M1 : dwSt) (R : (Nat × (Nat → Nat → Int32)) ⊕ (Nat × Nat)) (z : dwR9 Nat) : Prop := match R with
    | .inl B' => ∃ M2 p', z = some (.inl ra, M2) ∧ fr (sBo o ra) nz 0 0 M1 M2 ∧ bC b M2 A o ra L J B' p'
    | .inr e => bdC N 1 8 M1 e z
theorem c_boR {o ra L J N : Nat} {M1 : dwSt} (hJ : J ≤ 6) (hN : N ≤ o) (hNr : N ≤ ra) (hNn : N ≤ dwN M1) (k : cAt b M1 A o 10 L 0) (r110 : dwR M1 o 110 = some ra) (i109 : dwI M1 o 109 = Int32.ofNat J) (kra : dwK M1 ra = (1, 6)) (i111 : dwI M1 o 111 = 0) (hra : ra < dwN M1) (hra2 : b + 562 ≤ ra) (hR : room M1 1 8) : boZ b A o ra L J N M1 (boF (xbN A) L J L (0, g00) (blS (xbN A) L 0)) (m_X31_reads M1 o) := by
  have hL600 : L ≤ 600 := Nat.le_trans k.2.2.2.2 k.1.2.1
  have hk := k.2.1.2.2.2.1
  have ho := k.2.1.1
  have hob := k.2.1.2.1
  have hne : ra ≠ o := fun e => by
    rw [e, hk] at kra; exact absurd (congrArg Prod.fst kra) (by decide)
  unfold m_X31_reads
  rw [jn_u]
  refine lpx (E := boZ b A o ra L J N M1 (boF (xbN A) L J L (0, g00) (blS (xbN A) L 0))) (fun f i (M' : dwSt) => L_X31_reads_2 o _ f (Int32.ofNat i) M') 6 (fun i M' => fr (fun a _ => a = ra) nz 0 0 M1 M' ∧ ∀ j, j < i → dwI M' ra j = -1) ?_ ?_ 1000000 0 M1 (by omega) (by omega) ⟨fr.refl M1, fun j hj => absurd hj (Nat.not_lt_zero j)⟩
  · intro f M' ⟨hf, hr⟩
    have k2 : cAt b M' A o 10 L 0 := k.fr hf (fun a k z => ⟨by omega, fun e => absurd (z.symm.trans e) hne⟩) (fun _ _ z => False.elim z)
    have hk2 := k2.2.1.2.2.2.1
    obtain ⟨M3, e3, f3, k3⟩ := cA_sign k2
    have hB3 : bC b M3 A o ra L J (0, g00) (blS (xbN A) L 0) := by
      have hn := hf.n
      have hn3 := f3.n
      refine ⟨k3, ?_, ?_, ?_, fun j hj => ?_, ?_, by omega, hra2⟩
      · rw [f3.r (by omega) (fun z => z), hf.r ho (fun z => z)]; exact r110
      · rw [f3.i (by omega) (by unfold sPo; omega), hf.i ho (fun e => hne e.symm)]; exact i109
      · rw [f3.k (by omega), hf.k hra]; exact kra
      · rw [f3.i (by omega) (by unfold sPo; omega), hr j hj]; rfl
      · rw [f3.i (by omega) (by unfold sPo; omega), hf.i ho (fun e => hne e.symm)]; exact i111
    have F13 : fr (sBo o ra) nz 0 0 M1 M3 := (hf.mono (S' := sBo o ra) (Z' := nz) (fun a k z => Or.inr z) (fun _ _ z => z) (Nat.le_refl _) (Nat.le_refl _)).t0 (f3.mono (fun a k z => Or.inl ⟨z.1, by have := z.2; omega⟩) (fun _ _ z => z) (Nat.le_refl _) (Nat.le_refl _))
    have hn3 := F13.n
    have r := c_boL (A := A) hJ hN hNr L (blS (xbN A) L 0) 1000000 (0, g00) M3 (by omega) (by omega) (by omega) hB3 ((hR.le (n' := 0 + 1) (u' := 0 + 8) (by omega) (by omega)).fr F13)
    show boZ b A o ra L J N M1 (boF (xbN A) L J L (0, g00) (blS (xbN A) L 0)) (L_X31_reads_2 o _ (f + 1) (Int32.ofNat 6) M')
    rw [L_X31_reads_2, if_pos (show (6 : Int32) ≤ Int32.ofNat 6 by decide), xrk_u hk2, e3, xmb_v, jn_u, jn_u]
    generalize boF (xbN A) L J L (0, g00) (blS (xbN A) L 0) = R at *
    cases R with
    | inl B' =>
      obtain ⟨M4, p', e4, f4, h4⟩ := r
      exact ⟨M4, p', e4, F13.t0 f4, h4⟩
    | inr e => exact (bdC.pre r F13 (fun a k z => by unfold sBo at z; omega) (fun _ _ z => False.elim z)).le (by omega) (by omega)
  · intro f i M' hi ⟨hf, hr⟩ hnx
    have k1 : dwK M' o = (0, 10) := (hf.k ho).trans hk
    have k2 : dwK M' ra = (1, 6) := (hf.k hra).trans kra
    have q110 : dwR M' o 110 = some ra := (hf.r ho (fun z => z)).trans r110
    show boZ b A o ra L J N M1 (boF (xbN A) L J L (0, g00) (blS (xbN A) L 0)) (L_X31_reads_2 o _ (f + 1) (Int32.ofNat i) M')
    rw [L_X31_reads_2, if_neg (show ¬ (6 : Int32) ≤ Int32.ofNat i from of_eq_false (i_geF (n := 6) hi (by omega))), xgR_v (by rw [k1]; rfl) q110, xsI_u (by rw [k2]) (by rw [k2]; exact inb_n (by omega) (by omega)), i_nat (by omega), i_succ]
    refine hnx _ ⟨hf.pI _ (Or.inl rfl), fun j hj => ?_⟩
    rw [di_PI]
    by_cases e : j = i
    · rw [if_pos ⟨rfl, e⟩]
    · rw [if_neg (fun z => e z.2)]; exact hr j (by omega)
theorem fs10 : (dwFs 10).length = 8 := by decide
theorem C_book {n : Nat} (hC : CInv b w M A) (hn : n ≤ (aTx A).1) (hn60 : n ≤ 60) (hR : room M 9000 113000) : match boF (xbN A) n (tJ (aT A)) n (0, g00) (blS (xbN A) n 0) with
    | .inl B => ∃ M1 w', m_X1_book M b (Int32.ofNat n) = some (.inl (Int32.ofNat B.1), M1) ∧ CInv b w' M1 (aRd A B (-1)) ∧ fr (cWo b) (zWo b) 9000 113000 M M1
    | .inr e => ∃ M1 w', m_X1_book M b (Int32.ofNat n) = some (.inl (Int32.ofNat e.1 - 10), M1) ∧ CInv b w' M1 (aRd A (aBk A) (Int32.ofNat e.2)) ∧ fr (cWo b) (zWo b) 9000 113000 M M1 := by
  have hs := hC.1.sh
  have hN := shN hs
  have hO := hC.1.ok
  have hx600 := (tpC_of hC).2.1
  have hJ6 := hO.1.2.1
  have i15 := hC.1.tx.1
  have f5 : fr (sRc b) nz 0 0 M (dwPI M b 16 (-1)) := (fr.refl M).pI _ (Or.inl (Or.inl ⟨rfl, Or.inr (Or.inr rfl)⟩))
  have f5s : fr (fun a k => a = b ∧ k = 16) nz 0 0 M (dwPI M b 16 (-1)) := (fr.refl M).pI _ (Or.inl ⟨rfl, rfl⟩)
  have s5 := hs.fr f5 nz_p
  have t5 : tpC b (dwPI M b 16 (-1)) A := (tpC_of hC).fr f5 (fun k z => by unfold sRc at z; omega) nz_p
  have hF : cFree b w (sRc b) := fun a k q hi => by unfold sRc at q; unfold imf at hi; omega
  have told5 := hC.1.told.fr hs f5 hF nz_f (fun q => q)
  have hR5 : room (dwPI M b 16 (-1)) 3 30 := hR.le (by omega) (by omega)
  have e0 : m_X1_book M b (Int32.ofNat n) = xnew (dwPI M b 16 (-1)) 10 (fun o6 M7 => xgR M7 18 b (fun v8 => xrk M7 b 0 (xob (m_X1_jokes M7 b) (fun v9 => xmb (m_X31_init M7 o6 v8 (Int32.ofNat n) v9) (fun _ M11 => xrk M11 o6 10 (xth (m_X31_reads M11 o6) (fun v12 M13 => xgR M13 3 b (fun v17 => xcpy M13 1 v12 0 v17 0 6 (fun M18 => xgI M18 111 o6 (fun v19 => xpI M18 13 b v19 (fun M20 => xgI M20 13 b (fun v21 => xpI M20 15 b 0 (fun M22 => some (.inl v21, M22)))))))) (fun cl9 q9 M13 => if cl9 = 0 then xrk M13 b 0 (xmb (m_X1_failed M13 b q9) (fun v14 M15 => xpI M15 15 b 0 (fun M16 => some (.inl v14, M16)))) else none))))))) := by
    unfold m_X1_book
    rw [jn_u, jn_u, if_neg (of_eq_false (i_neg (by omega))), xgI_u (by rw [kd0 hs]; rfl), i15, if_neg (by rw [i_lt (by omega) (by omega)]; omega), if_neg (by rw [show (60 : Int32) = Int32.ofNat 60 from rfl, i_lt (by omega) (by omega)]; omega)]
    show xrk M b 0 (xth (m_X1_need M b 1) _ _) = _
    rw [xrk_u (kd0 hs), c_need1 rfl, xth_v, xpI_u (by rw [kd0 hs]; rfl)]
  rw [e0]
  have n5 : dwN (dwPI M b 16 (-1)) = dwN M := rfl
  have i16 : dwI (dwPI M b 16 (-1)) b 16 = -1 := di_eq
  generalize dwPI M b 16 (-1) = M5 at *
  obtain ⟨M8, e8, f8, k8, z8, n8⟩ := c_mkR (ci := 10) (m := 8) (L := n) t5 (by omega) hn
  have f7 : fr nz nz 1 8 M5 (dwMk M5 (0, 10) 8) := (fr.refl M5).mk _ _
  have s7 := s5.fr f7 nz_p
  have told7 := told5.fr s5 f7 nz_f nz_f (fun q => q)
  have hk8 := k8.2.1.2.2.2.1
  rw [xnew_u fs10 (hR5.le (by omega) (by omega)), gp0_18 s7, xrk_u (kd0 s7), c_jokes s7 told7, xob_v]
  have hR8 : room M8 2 22 := (hR5.le (n' := 1 + 2) (u' := 8 + 22) (by omega) (by omega)).fr f8
  rw [n5] at k8 e8 z8 n8 hk8 ⊢
  have e9 : m_X31_init (dwMk M5 (0, 10) 8) (dwN M) (b + 39) (Int32.ofNat n) (Int32.ofNat (tJ (aT A))) = some ((), dwPI (dwPR (dwMk M8 (1, 6) 6) (dwN M) 110 (some (dwN M + 1))) (dwN M) 109 (Int32.ofNat (tJ (aT A)))) := by
    have kk : dwK (dwMk M8 (1, 6) 6) (dwN M) = (0, 10) := by rw [dk_Mk, if_neg (by omega)]; exact hk8
    unfold m_X31_init
    rw [e8, xmb_v]
    show xnewA M8 1 (Int32.ofNat 6) _ = _
    rw [xnewA_u (by omega) (hR8.le (by omega) (by omega)), xpR_u (by rw [kk]; rfl), xpI_u (by rw [dk_PR, kk]; rfl), n8]
  have f9 : fr (atN (dwN M)) (atN (dwN M)) 1 6 M8 (dwPI (dwPR (dwMk M8 (1, 6) 6) (dwN M) 110 (some (dwN M + 1))) (dwN M) 109 (Int32.ofNat (tJ (aT A)))) := (((fr.refl M8).mk (1, 6) 6).pR (a := dwN M) (k := 110) (some (dwN M + 1)) (Or.inl (Nat.le_refl _))).pI (a := dwN M) (k := 109) (Int32.ofNat (tJ (aT A))) (Or.inl (Nat.le_refl _))
  have F59 : fr nz nz 2 14 M5 (dwPI (dwPR (dwMk M8 (1, 6) 6) (dwN M) 110 (some (dwN M + 1))) (dwN M) 109 (Int32.ofNat (tJ (aT A)))) := ((f8.mono (S' := atN (dwN M)) (Z' := atN (dwN M)) (fun _ _ z => False.elim z) (fun _ _ z => False.elim z) (Nat.le_refl _) (Nat.le_refl _)).trans f9).old (fun a k ha z => by have : dwN M ≤ a := z; omega) (fun a k ha z => by have : dwN M ≤ a := z; omega)
  have k9 : cAt b (dwPI (dwPR (dwMk M8 (1, 6) 6) (dwN M) 110 (some (dwN M + 1))) (dwN M) 109 (Int32.ofNat (tJ (aT A)))) A (dwN M) 10 n 0 := by
    have hs8 := k8.1.1
    refine ⟨t5.fr F59 (fun k z => z) nz_p, ⟨by rw [dn_PI, dn_PR, dn_Mk]; omega, by omega, by omega, ?_, ?_, ?_⟩, ?_, Nat.zero_le _, hn⟩
    · rw [dk_PI, dk_PR, dk_Mk, if_neg (by omega)]; exact hk8
    · rw [dr_PI, dr_PR, if_neg (by omega), dr_Mk, if_neg (by omega)]; exact k8.2.1.2.2.2.2.1
    · rw [di_ne (by omega), di_PR, di_Mk, if_neg (by omega)]; exact k8.2.1.2.2.2.2.2
    · rw [di_ne (by omega), di_PR, di_Mk, if_neg (by omega)]; exact k8.2.2.1
  have r110 : dwR (dwPI (dwPR (dwMk M8 (1, 6) 6) (dwN M) 110 (some (dwN M + 1))) (dwN M) 109 (Int32.ofNat (tJ (aT A)))) (dwN M) 110 = some (dwN M + 1) := by rw [dr_PI, dr_PR, if_pos ⟨rfl, rfl⟩]
  have i109 : dwI (dwPI (dwPR (dwMk M8 (1, 6) 6) (dwN M) 110 (some (dwN M + 1))) (dwN M) 109 (Int32.ofNat (tJ (aT A)))) (dwN M) 109 = Int32.ofNat (tJ (aT A)) := di_eq
  have kra : dwK (dwPI (dwPR (dwMk M8 (1, 6) 6) (dwN M) 110 (some (dwN M + 1))) (dwN M) 109 (Int32.ofNat (tJ (aT A)))) (dwN M + 1) = (1, 6) := by rw [dk_PI, dk_PR, dk_Mk, if_pos n8.symm]
  have i111 : dwI (dwPI (dwPR (dwMk M8 (1, 6) 6) (dwN M) 110 (some (dwN M + 1))) (dwN M) 109 (Int32.ofNat (tJ (aT A)))) (dwN M) 111 = 0 := by rw [di_ne (by omega), di_PR, di_Mk, if_neg (by omega)]; exact z8 111 (by omega)
  have n9 : dwN (dwPI (dwPR (dwMk M8 (1, 6) 6) (dwN M) 110 (some (dwN M + 1))) (dwN M) 109 (Int32.ofNat (tJ (aT A)))) = dwN M + 2 := by rw [dn_PI, dn_PR, dn_Mk, n8]
  rw [e9, xmb_v]
  generalize dwPI (dwPR (dwMk M8 (1, 6) 6) (dwN M) 110 (some (dwN M + 1))) (dwN M) 109 (Int32.ofNat (tJ (aT A))) = M9 at *
  have hR9 : room M9 1 8 := (hR5.le (n' := 2 + 1) (u' := 14 + 8) (by omega) (by omega)).fr F59
  have hk9 := k9.2.1.2.2.2.1
  have r := c_boR (A := A) (N := dwN M) (o := dwN M) (ra := dwN M + 1) hJ6 (Nat.le_refl _) (by omega) (by omega) k9 r110 i109 kra i111 (by omega) (by omega) hR9
  have F9 : fr (sRc b) nz 2 14 M M9 := (f5.trans (F59.mono (fun _ _ z => False.elim z) (fun _ _ z => z) (Nat.le_refl _) (Nat.le_refl _))).mono (fun _ _ z => z) (fun _ _ z => z) (by omega) (by omega)
  rw [xrk_u hk9]
  have wid : ∀ {n u : Nat} {M1 : dwSt}, n ≤ 9000 → u ≤ 113000 → fr (sRc b) nz n u M M1 → fr (cWo b) (zWo b) 9000 113000 M M1 := fun h1 h2 f => f.mono (fun a k q => by unfold sRc at q; unfold cWo; omega) (fun _ _ q => False.elim q) h1 h2
  have hBR : ∀ B, boF (xbN A) n (tJ (aT A)) n (0, g00) (blS (xbN A) n 0) = .inl B → bkR (aT A) B := fun B e => boF_R rfl hJ6 _ _ _ _ bkR_0 ((blS_le _ 0 rfl).2 (Nat.zero_le _)) e
  generalize boF (xbN A) n (tJ (aT A)) n (0, g00) (blS (xbN A) n 0) = R at *
  cases R with
  | inl B =>
    have hB := hBR B rfl
    obtain ⟨M13, p', e13, f13, h13⟩ := r
    obtain ⟨k13, -, -, kra13, hB13, i111', hra13, -⟩ := h13
    have F13 : fr (fun a k => sRc b a k ∨ dwN M ≤ a) (fun a _ => dwN M ≤ a) 2 14 M M13 := (F9.mono (S' := fun a k => sRc b a k ∨ dwN M ≤ a) (Z' := fun a _ => dwN M ≤ a) (fun _ _ z => Or.inl z) (fun _ _ z => False.elim z) (Nat.le_refl _) (Nat.le_refl _)).t0 (f13.mono (fun a k z => Or.inr (by unfold sBo at z; omega)) (fun _ _ z => False.elim z) (Nat.le_refl _) (Nat.le_refl _))
    have F13' : fr (sRc b) nz 2 14 M M13 := F13.old (fun a k ha z => z.resolve_right (by omega)) (fun a k ha z => absurd z (by omega))
    have s13 := hs.fr F13' nz_p
    have hk13 := k13.2.1.2.2.2.1
    have F22 : fr (sRc b) nz 2 14 M (dwPI (dwPI (dwCp M13 (dwN M + 1) (b + 21) 6) b 13 (Int32.ofNat B.1)) b 15 0) := ((F13'.cp (a := dwN M + 1) (c := b + 21) (n := 6) (Or.inl fun k => Or.inr rfl)).pI _ (Or.inl (Or.inl ⟨rfl, Or.inl rfl⟩))).pI _ (Or.inl (Or.inl ⟨rfl, Or.inr (Or.inl rfl)⟩))
    have kb : dwK (dwCp M13 (dwN M + 1) (b + 21) 6) b = (0, 0) := by rw [dk_Cp]; exact kd0 s13
    refine ⟨_, w, ?_, C_rd hC F22 ⟨?_, fun j hj => ?_⟩ hB.ok ?_ di_eq, wid (by omega) (by omega) F22⟩
    · rw [e13, xth_v, gp0_3 s13, xcpy6 kra13 (kd21 s13), xgI_u (by rw [dk_Cp, hk13]; rfl), di_Cpn (by omega), i111', xpI_u (by rw [kb]; rfl), xgI_u (by rw [dk_PI, kb]; rfl), di_eq, xpI_u (by rw [dk_PI, kb]; rfl)]
    · rw [di_ne (by omega), di_eq]
    · rw [di_ne (by omega), di_ne (by omega), di_Cpe hj]; exact hB13 j hj
    · rw [di_ne (by omega), di_ne (by omega), di_Cpn (by omega), f13.i (by omega) (by unfold sBo; omega), F59.i (by omega) (fun z => z)]
      exact i16
  | inr e =>
    obtain ⟨M2, q, e2, f2, hq, hk2, h102, h103⟩ := r
    have F9s : fr (fun a k => a = b ∧ k = 16) nz 2 14 M M9 := (f5s.trans (F59.mono (fun _ _ z => False.elim z) (fun _ _ z => z) (Nat.le_refl _) (Nat.le_refl _))).mono (fun _ _ z => z) (fun _ _ z => z) (by omega) (by omega)
    have F2 : fr (fun a k => (a = b ∧ (k = 15 ∨ k = 16)) ∨ dwN M ≤ a) (fun a _ => dwN M ≤ a) 3 22 M M2 := (F9s.mono (S' := fun a k => (a = b ∧ (k = 15 ∨ k = 16)) ∨ dwN M ≤ a) (Z' := fun a _ => dwN M ≤ a) (fun _ _ z => Or.inl ⟨z.1, Or.inr z.2⟩) (fun _ _ z => False.elim z) (Nat.le_refl _) (Nat.le_refl _)).trans (f2.mono (fun a k z => Or.inr z) (fun _ _ z => z) (Nat.le_refl _) (Nat.le_refl _))
    have F2' : fr (fun a k => a = b ∧ (k = 15 ∨ k = 16)) nz 3 22 M M2 := F2.old (fun a k ha z => z.resolve_right (by omega)) (fun a k ha z => absurd z (by omega))
    have s2 := hs.fr F2' nz_p
    have F3s : fr (fun a k => a = b ∧ (k = 15 ∨ k = 16)) nz 3 22 M (dwPI (dwPI M2 b 16 (Int32.ofNat e.2)) b 15 0) := (F2'.pI _ (Or.inl ⟨rfl, Or.inr rfl⟩)).pI _ (Or.inl ⟨rfl, Or.inl rfl⟩)
    have F3 : fr (sRc b) nz 3 22 M (dwPI (dwPI M2 b 16 (Int32.ofNat e.2)) b 15 0) := F3s.mono (fun a k z => Or.inl ⟨z.1, Or.inr z.2⟩) (fun _ _ z => z) (Nat.le_refl _) (Nat.le_refl _)
    have kb : dwK (dwPI M2 b 16 (Int32.ofNat e.2)) b = (0, 0) := kd0 s2
    refine ⟨_, w, ?_, C_rd hC F3 (hC.1.bk.fr hs F3s (by omega) (fun k => by omega)) hO.2.1 (by rw [di_ne (by omega), di_eq]) di_eq, wid (by omega) (by omega) F3⟩
    rw [e2, xth_x, if_pos rfl, xrk_u (kd0 s2), c_failed s2 hk2 h102 h103 (by omega), xmb_v, xpI_u (by rw [kb]; rfl)]
end CALL
