/-! A LAW: both calls, whole -/
def aLaW (A : dvA) (lw : (Nat → Int32) → Int32) : dvA := (A.1, lw, A.2.2.1, A.2.2.2.1, A.2.2.2.2.1, A.2.2.2.2.2.1, A.2.2.2.2.2.2.1, -1, (0, A.2.2.2.2.2.2.2.2.1.2), A.2.2.2.2.2.2.2.2.2)
theorem aLaW_ok {A : dvA} {lw : (Nat → Int32) → Int32} (h : allOK A) : allOK (aLaW A lw) := by
  obtain ⟨o1, o2, o3, o4, o5, o6, o7, o8, o9⟩ := h
  exact ⟨o1, o2, o3, o4, o5, o6, o7, Nat.zero_le _, fun k hk => absurd hk (Nat.not_lt_zero k)⟩
theorem unG_bl {X : Nat → Nat} {L k p : Nat} {rec : Nat → rsL} : unG X L rec k (blS X L p) = unG X L rec k p := by
  unfold unG; rw [blS_bl]
theorem smS_bl {X : Nat → Nat} {L p : Nat} : ∀ k, smS X L k (blS X L p) = smS X L k p
  | 0 => by unfold smS smG prG; rw [unG_bl]
  | k + 1 => by unfold smS smG prG; rw [unG_bl]
theorem lwS_ok {X : Nat → Nat} {L : Nat} {t : tmT} (h : lwS X L = .inl t) : t.1.length ≤ L ∧ tmG t := by
  unfold lwS at h
  cases hs : smS X L 6 0 with
  | inr e => rw [hs] at h; cases h
  | inl u =>
    rw [hs] at h
    dsimp only at h
    split at h
    · cases h
      obtain ⟨a1, a2, a3⟩ := smS_ok 6 0 (Nat.zero_le _) u.1 u.2 hs
      exact ⟨by omega, a3⟩
    · cases h
theorem fs8 : (dwFs 8).length = 5 := by decide
section LAW
variable {b : Nat} {w : Nat → Nat} {M : dwSt} {A : dvA}
theorem C_law {n : Nat} (hC : CInv b w M A) (hK : KS b M) (hn : n ≤ (aTx A).1) (hn1 : n ≤ 150) (hR : room M 9000 113000) : match lwS (xbN A) n with
    | .inl t => ∃ M1 w', m_X1_law M b (Int32.ofNat n) = some (.inl 1, M1) ∧ CInv b w' M1 (aLaW A t.2.1) ∧ fr (cWo b) (zWo b) 9000 113000 M M1
    | .inr e => ∃ M1 w', m_X1_law M b (Int32.ofNat n) = some (.inl (Int32.ofNat e.1 - 10), M1) ∧ CInv b w' M1 (aRd A (aBk A) (Int32.ofNat e.2)) ∧ fr (cWo b) (zWo b) 9000 113000 M M1 := by
  have hs := hC.1.sh
  have hN := shN hs
  have hO := hC.1.ok
  have hx600 := (tpC_of hC).2.1
  have i15 := hC.1.tx.1
  have f5 : fr (fun a k => a = b ∧ k = 16) nz 0 0 M (dwPI M b 16 (-1)) := (fr.refl M).pI _ (Or.inl ⟨rfl, rfl⟩)
  have s5 := hs.fr f5 nz_p
  have t5 : tpC b (dwPI M b 16 (-1)) A := (tpC_of hC).fr f5 (fun k z => by omega) nz_p
  have K5 : KS b (dwPI M b 16 (-1)) := hK.fr (by omega) f5 (fun a k z => by omega) (fun _ _ z => False.elim z)
  have hR5 : room (dwPI M b 16 (-1)) 9000 113000 := hR
  have e0 : m_X1_law M b (Int32.ofNat n) = xnew (dwPI M b 16 (-1)) 8 (fun o6 M7 => xgR M7 18 b (fun v8 => xmb (m_X16_init M7 o6 v8 (Int32.ofNat n)) (fun _ M10 => xrk M10 o6 8 (xth (m_X16_reads M10 o6) (fun v11 M12 => xpR M12 1 b v11 (fun M16 => xpI M16 15 b 0 (fun M17 => some (.inl 1, M17)))) (fun cl9 q9 M12 => if cl9 = 0 then xrk M12 b 0 (xmb (m_X1_failed M12 b q9) (fun v13 M14 => xpI M14 15 b 0 (fun M15 => some (.inl v13, M15)))) else none))))) := by
    unfold m_X1_law
    rw [jn_u, jn_u, if_neg (of_eq_false (i_neg (by omega))), xgI_u (by rw [kd0 hs]; rfl), i15, if_neg (by rw [i_lt (by omega) (by omega)]; omega), if_neg (by rw [show (150 : Int32) = Int32.ofNat 150 from rfl, i_lt (by omega) (by omega)]; omega)]
    show xrk M b 0 (xth (m_X1_need M b 1) _ _) = _
    rw [xrk_u (kd0 hs), c_need1 rfl, xth_v, xpI_u (by rw [kd0 hs]; rfl)]
  rw [e0]
  have n5 : dwN (dwPI M b 16 (-1)) = dwN M := rfl
  have i16 : dwI (dwPI M b 16 (-1)) b 16 = -1 := di_eq
  generalize dwPI M b 16 (-1) = M5 at *
  obtain ⟨M8, e8, f8, k8, z8, n8⟩ := c_mkR (ci := 8) (m := 5) (L := n) t5 (by omega) hn
  have f7 : fr nz nz 1 5 M5 (dwMk M5 (0, 8) 5) := (fr.refl M5).mk _ _
  have s7 := s5.fr f7 nz_p
  have hk8 := k8.2.1.2.2.2.1
  rw [xnew_u fs8 (hR5.le (by omega) (by omega)), gp0_18 s7]
  have hR8 : room M8 8000 100000 := (hR5.le (n' := 1 + 8000) (u' := 5 + 100000) (by omega) (by omega)).fr f8
  rw [n5] at k8 e8 z8 n8 hk8 ⊢
  have l8 : lw b M8 A (dwN M) n 6 0 := ⟨k8, (z8 94 (by omega)).trans rfl, Nat.le_refl _, K5.fr (by omega) f8 (fun _ _ z => False.elim z) (fun _ _ z => False.elim z)⟩
  have e9 : m_X16_init (dwMk M5 (0, 8) 5) (dwN M) (b + 39) (Int32.ofNat n) = some ((), M8) := by
    unfold m_X16_init; rw [e8, xmb_v]
  rw [e9, xmb_v, xrk_u hk8]
  have r := c_reads (by omega) l8 (hR8.le (by omega) (by omega))
  have F8 : fr (fun a k => a = b ∧ k = 16) nz 1 5 M M8 := (f5.trans (f8.mono (fun _ _ z => False.elim z) (fun _ _ z => z) (Nat.le_refl _) (Nat.le_refl _))).mono (fun _ _ z => z) (fun _ _ z => z) (by omega) (by omega)
  have q16 : dwI M8 b 16 = -1 := (f8.i (by omega) (fun z => z)).trans i16
  cases hw : lwS (xbN A) n with
  | inr e =>
    rw [hw] at r
    obtain ⟨M2, q, e2, f2, hq, hk2, h102, h103⟩ := r
    obtain ⟨M3, e3, s2, c3, f3⟩ := C_fault hC F8 rfl f2 (by omega) (by omega) hq hk2 h102 h103
    refine ⟨M3, w, ?_, c3, f3⟩
    rw [e2, xth_x, if_pos rfl, xrk_u (kd0 s2)]
    exact e3
  | inl t =>
    rw [hw] at r
    obtain ⟨hlen, tg1, tg2, tg3, tg4⟩ := lwS_ok hw
    obtain ⟨M12, a, e12, f12, l12, t12⟩ := r
    have F12 : fr (fun a k => (a = b ∧ k = 16) ∨ dwN M ≤ a) nz 900 6000 M M12 := ((F8.mono (S' := fun a k => (a = b ∧ k = 16) ∨ dwN M ≤ a) (Z' := nz) (fun _ _ z => Or.inl z) (fun _ _ z => z) (Nat.le_refl _) (Nat.le_refl _)).trans (f12.mono (fun a k z => Or.inr (Nat.le_of_eq z.1.symm)) (fun _ _ z => z) (Nat.le_refl _) (Nat.le_refl _))).mono (fun _ _ z => z) (fun _ _ z => z) (by omega) (by omega)
    have F12' : fr (fun a k => a = b ∧ k = 16) nz 900 6000 M M12 := F12.old (fun a k ha z => z.resolve_right (by omega)) (fun a k ha z => z)
    have s12 := hs.fr F12' nz_p
    have n12 := F12.n
    have p16 : dwI M12 b 16 = -1 := (f12.i (by omega) (fun z => by have := z.1; omega)).trans q16
    have f17 : fr (fun a k => a = b ∧ k = 15) (fun a k => a = b ∧ k = 1) 0 0 M12 (dwPI (dwPR M12 b 1 (some a)) b 15 0) := ((fr.refl M12).pR _ (Or.inl ⟨rfl, rfl⟩)).pI _ (Or.inl ⟨rfl, rfl⟩)
    have F17 : fr (fun a k => a = b ∧ (k = 15 ∨ k = 16)) (fun a k => a = b ∧ k = 1) 900 6000 M (dwPI (dwPR M12 b 1 (some a)) b 15 0) := (F12'.mono (S' := fun a k => a = b ∧ (k = 15 ∨ k = 16)) (Z' := fun a k => a = b ∧ k = 1) (fun a k z => ⟨z.1, Or.inr z.2⟩) (fun _ _ z => False.elim z) (Nat.le_refl _) (Nat.le_refl _)).t0 (f17.mono (fun a k z => ⟨z.1, Or.inl z.2⟩) (fun _ _ z => z) (Nat.le_refl _) (Nat.le_refl _))
    have n17 : dwN (dwPI (dwPR M12 b 1 (some a)) b 15 0) = dwN M12 := rfl
    have zp : ∀ (a k : Nat), (a = b ∧ k = 1) → ¬ ptr b a k := fun a k z => by unfold ptr; omega
    have s17 := hs.fr F17 zp
    have r17 : dwR (dwPI (dwPR M12 b 1 (some a)) b 15 0) b 1 = some a := by rw [dr_PI, dr_PR, if_pos ⟨rfl, rfl⟩]
    have t17 : ∀ f, tmr (dwN M) (dwPI (dwPR M12 b 1 (some a)) b 15 0) f t.2.2 a (t.2.1 f) := fun f => tmr_fr f17 (fun a k _ z => Or.inl (by have := z.1; omega)) (fun a k _ z => Or.inl (by have := z.1; omega)) _ _ _ (t12 f)
    have v16 : dwI (dwPI (dwPR M12 b 1 (some a)) b 15 0) b 16 = -1 := by rw [di_ne (by omega)]; exact p16
    have v15 : dwI (dwPI (dwPR M12 b 1 (some a)) b 15 0) b 15 = 0 := di_eq
    rw [e12, xth_v, xpR_u (by rw [kd0 s12]; rfl), xpI_u (by rw [dk_PR, kd0 s12]; rfl)]
    generalize dwPI (dwPR M12 b 1 (some a)) b 15 0 = M17 at *
    obtain ⟨w', hw'⟩ : ∃ w' : Nat → Nat, w' = fun a => if a < dwN M then w a else 2 := ⟨_, rfl⟩
    have hww : ∀ a, a < dwN M → w' a = w a := fun a ha => by rw [hw']; exact if_pos ha
    have hw2 : ∀ a, dwN M ≤ a → a < dwN M17 → w' a = 2 := fun a h1 _ => by rw [hw']; exact if_neg (by omega)
    have cfS : cFree b w' (fun a k => a = b ∧ (k = 15 ∨ k = 16)) := fun a k q hi => by have := q.1; unfold imf at hi; omega
    have cfZ : cFree b w' (fun a k => a = b ∧ k = 1) := fun a k q hi => by have := q.1; unfold imf at hi; omega
    refine ⟨M17, w', rfl, ⟨cCore_mk (A := aLaW A t.2.1) s17 ((hC.1.told.wo hww).fr hs F17 cfS cfZ (fun z => by omega)) ⟨tg4, a, t.2.2, by omega, r17, fun f => tmr_tma (by omega) hw2 _ _ _ (t17 f)⟩ (hC.1.bk.fr hs F17 (by omega) (fun k => by omega)) (hC.1.now.fr F17 (fun i k hi => by omega) (fun k => by omega)) ((hC.1.pa.wo hww).fr hs hO.2.2.2.1 F17 (by omega) (fun k => by omega) (fun a j ha _ _ => ⟨by omega, by omega⟩)) ((hC.1.im.wo hww).fr hs hO.2.2.2.2.2.1 (fun i hi => (hO.2.2.2.2.2.2.1 i hi).1) F17 (by omega) (fun k => ⟨by omega, by omega, by omega⟩) (fun a j ha _ _ => ⟨by omega, by omega⟩)) ((F17.i (by omega) (by omega)).trans hC.1.rs) v16 ⟨v15, fun k hk => absurd hk (Nat.not_lt_zero k)⟩ (aLaW_ok hO), (F17.i (by omega) (by omega)).trans hC.2.1, (F17.i (by omega) (by omega)).trans hC.2.2⟩, F17.mono (fun a k q => by unfold cWo; omega) (fun a k q => by unfold zWo cWo ptr; omega) (by omega) (by omega)⟩
theorem T_law {n : Nat} (hT : TInv b M A) (hn : n ≤ (aTx A).1) (hn1 : n ≤ 150) : match lwS (xbN A) n with
    | .inl t => ∃ M1, m_X10_law M (b + 54) (Int32.ofNat n) = some (1, M1) ∧ TInv b M1 (aLaW A t.2.1) ∧ fr (tW b) nz 0 0 M M1 ∧ dwI M1 (b + 54) 44 = 0
    | .inr e => ∃ M1, m_X10_law M (b + 54) (Int32.ofNat n) = some (Int32.ofNat e.1 - 10, M1) ∧ TInv b M1 (aRd A (aBk A) (Int32.ofNat e.2)) ∧ fr (tW b) nz 0 0 M M1 ∧ dwI M1 (b + 54) 44 = 0 := by
  obtain ⟨hT0, f0, z0⟩ := tinv_z hT
  have hg := T_guard hT hn
  have sh := hT.1.sh
  have shz := hT0.1.sh
  have hN := shN shz
  have hO := hT.1.ok
  have f0' : fr (fun a k => sRt b a k ∧ ¬ (a = b + 54 ∧ k = 77) ∧ ¬ (b + 438 ≤ a ∧ a ≤ b + 443)) nz 0 0 M (dwPI M (b + 54) 44 0) := (fr.refl M).pI _ (Or.inl ⟨Or.inl ⟨rfl, by omega⟩, by omega, by omega⟩)
  have hx600 := (tpT_of hT).2.1
  have h150 : (Int32.ofNat n ≤ 150) = True := by rw [show (150 : Int32) = Int32.ofNat 150 from rfl, i_le (by omega) (by omega)]; exact eq_true hn1
  have hbad0 := t_bad0 (x := 1) (i := 1) shz z0
  obtain ⟨M2, e2, f2, k2, j45, j51, j52⟩ := tS_starts (n := n) (tpT_of hT0) hn
  have sh2 := k2.1.1
  have hN2 := shN sh2
  have f3 : fr (fun a k => a = b + 54 ∧ k = 64) nz 0 0 M2 (dwPI M2 (b + 54) 64 0) := (fr.refl M2).pI _ (Or.inl ⟨rfl, rfl⟩)
  have k3 := k2.fr f3 (fun k hk => by omega) (fun k => by omega) nz_p
  have sh3 := k3.1.1
  have F3 : fr (fun a k => sRt b a k ∧ ¬ (a = b + 54 ∧ k = 77) ∧ ¬ (b + 438 ≤ a ∧ a ≤ b + 443)) nz 0 0 M (dwPI M2 (b + 54) 64 0) := (f0'.t0 (f2.mono (fun a k z => ⟨Or.inl ⟨z.1, by omega⟩, by omega, by omega⟩) (fun _ _ z => z) (Nat.le_refl _) (Nat.le_refl _))).t0 (f3.mono (fun a k z => ⟨Or.inl ⟨z.1, by omega⟩, by omega, by omega⟩) (fun _ _ z => z) (Nat.le_refl _) (Nat.le_refl _))
  have j44 : dwI (dwPI M2 (b + 54) 64 0) (b + 54) 44 = 0 := (f3.i (by omega) (by omega)).trans ((f2.i (by omega) (by omega)).trans z0)
  have i45 : dwI (dwPI M2 (b + 54) 64 0) (b + 54) 45 = 0 := (f3.i (by omega) (by omega)).trans j45
  have a3 : tAt b (dwPI M2 (b + 54) 64 0) A n 6 [] (blS (xbN A) n 0) := ⟨k3, ⟨di_eq, fun k x hx => by simp at hx⟩, (f3.i (by omega) (by omega)).trans j52, Nat.le_refl _, hn1, Nat.zero_le _⟩
  obtain ⟨M4, e4, f4, a4⟩ := t_smS (by omega) 6 20 (by omega) _ _ _ a3
  rw [smS_bl] at a4
  have sh4 := (tQ.st a4).1.1
  obtain ⟨M5, e5, f5, k5⟩ := tS_bl (tQ.st a4)
  have sh5 := k5.1.1
  have hN5 := shN sh5
  have sh3' : Sh b (dwPI M2 (b + 54) 64 0) := sh3
  have F5 : fr (fun a k => sRt b a k ∧ ¬ (a = b + 54 ∧ k = 77) ∧ ¬ (b + 438 ≤ a ∧ a ≤ b + 443)) nz 0 0 M M5 := (F3.t0 (f4.mono (fun a k z => by unfold sTm at z; unfold sRt; omega) (fun _ _ z => z) (Nat.le_refl _) (Nat.le_refl _))).t0 (f5.mono (fun a k z => by unfold sPt at z; unfold sRt; omega) (fun _ _ z => z) (Nat.le_refl _) (Nat.le_refl _))
  have g45 : fr (sTm b) nz 0 0 (dwPI M2 (b + 54) 64 0) M5 := f4.t0 (f5.mono sPt_m (fun _ _ z => z) (Nat.le_refl _) (Nat.le_refl _))
  have hN3 := shN sh3
  have q44 : dwI M5 (b + 54) 44 = 0 := (g45.i (by omega) (by unfold sTm; omega)).trans j44
  have q45 : dwI M5 (b + 54) 45 = 0 := (g45.i (by omega) (by unfold sTm; omega)).trans i45
  simp -implicitDefEqProofs only [m_X10_law, ↓gp0_2, ↓gp0_3, ↓gp0_4, ↓gp0_5, ↓gp0_6, ↓gp0_7, ↓gp0_8, ↓gp0_9, ↓gp0_10, ↓gp0_18, ↓gp0_19, ↓gp0_20, ↓gp0_22, ↓gp23_43, ↓gp23_32, ↓gp23_33, ↓gp23_34, ↓gp23_35, ↓gp23_36, ↓gp29_43, ↓gp29_32, ↓gp29_33, ↓gp29_34, ↓gp29_35, ↓gp29_36, ↓gp54_53, ↓gp54_54, ↓gp54_55, ↓gp54_56, ↓gp54_57, ↓gp54_58, ↓gp54_59, ↓gp54_60, ↓gp54_61, ↓gp54_62, ↓gp54_65, ↓gp54_66, ↓gp54_67, ↓gp54_68, ↓gp54_69, ↓gp54_70, ↓gp54_71, ↓gp54_73, ↓gp54_74, ↓gp54_75, ↓gp54_76, ↓gp54_84, ↓gp54_85, ↓gp54_87, ↓gp54_88, ↓xr59, kr59, ↓xr67, kr67, ↓xr75, kr75, ↓xr82, kr82, ↓xr89, kr89, ↓xr102, kr102, ↓xr115, kr115, ↓xr276, kr276, ↓xr437, kr437, ↓xr444, kr444, ↓xr453, kr453, ↓xr536, kr536, ↓xr553, kr553, hs0, hw0, hs1, hw1, hs2, hw2, hs3, hw3, hs4, hw4, hs5, hw5, hs6, hw6, hs7, hw7, hs8, hw8, hs9, hw9, hs10, hw10, hs11, hw11, hs12, hw12, hs13, hw13, hs14, hw14, hs15, hw15, hs16, hw16, hs17, hw17, hs18, hw18, hs19, hw19, hs20, hw20, hs21, hw21, hs22, hw22, hs23, hw23, hs25, hw25, hs26, hw26, hs27, hw27, hs28, hw28, hs9b, hw9b, hs10b, hw10b, kd0, kd20, kd21, kd22, kd23, kd24, kd25, kd26, kd27, kd28, kd29, kd30, kd31, kd32, kd33, kd34, kd35, kd36, kd37, kd38, kd39, kd40, kd41, kd42, kd54, kd55, kd56, kd57, kd58, kd59, kd67, kd75, kd82, kd89, kd102, kd115, kd276, kd437, kd444, kd451, kd452, kd453, kd534, kd535, kd536, kd553, kd557, kd558, kd559, kd560, kd561, ↓xgI_u, ↓xpI_u, ↓xaI_u, ↓xsI_u, ↓xrk_u, ↓xrk0_u, ↓xob_v, ↓xmb_v, ↓xth_v, ↓xth_x, ↓jn_u, ↓xlen_u, ↓xaL_u, ↓xsL_u, ↓xbl_0, ↓xbl_1, eq_self, inb_n, inb_d, Sh_PI, Sh_PL, dk_PI, dk_PL, dr_PI, dr_PL, ↓reduceIte, Int32.reduceLE, Int32.reduceLT, Int32.reduceToNatClampNeg, Nat.reduceLT, Nat.reduceLeDiff, Nat.reduceEqDiff, Nat.reduceAdd, Nat.reduceMul, sh, shz, hg, e10, if_false, h150, if_true, hbad0, e2, sh2, sh3', e4, sh4, e5, sh5]
  unfold lwS
  cases hs : smS (xbN A) n 6 0 with
  | inr e =>
    rw [hs] at k5
    have k5' : tSt b M5 A n (.inr e) := k5
    have z := k5'.bad.2.2
    obtain ⟨M6, e6, t6, f6, g6⟩ := T_fault hT F5 k5' q44 q45
    refine ⟨M6, ?_, t6, f6, g6⟩
    simp only [z, if_false, ↓gp0_2, ↓gp0_3, ↓gp0_4, ↓gp0_5, ↓gp0_6, ↓gp0_7, ↓gp0_8, ↓gp0_9, ↓gp0_10, ↓gp0_18, ↓gp0_19, ↓gp0_20, ↓gp0_22, ↓gp23_43, ↓gp23_32, ↓gp23_33, ↓gp23_34, ↓gp23_35, ↓gp23_36, ↓gp29_43, ↓gp29_32, ↓gp29_33, ↓gp29_34, ↓gp29_35, ↓gp29_36, ↓gp54_53, ↓gp54_54, ↓gp54_55, ↓gp54_56, ↓gp54_57, ↓gp54_58, ↓gp54_59, ↓gp54_60, ↓gp54_61, ↓gp54_62, ↓gp54_65, ↓gp54_66, ↓gp54_67, ↓gp54_68, ↓gp54_69, ↓gp54_70, ↓gp54_71, ↓gp54_73, ↓gp54_74, ↓gp54_75, ↓gp54_76, ↓gp54_84, ↓gp54_85, ↓gp54_87, ↓gp54_88, ↓xr59, kr59, ↓xr67, kr67, ↓xr75, kr75, ↓xr82, kr82, ↓xr89, kr89, ↓xr102, kr102, ↓xr115, kr115, ↓xr276, kr276, ↓xr437, kr437, ↓xr444, kr444, ↓xr453, kr453, ↓xr536, kr536, ↓xr553, kr553, hs0, hw0, hs1, hw1, hs2, hw2, hs3, hw3, hs4, hw4, hs5, hw5, hs6, hw6, hs7, hw7, hs8, hw8, hs9, hw9, hs10, hw10, hs11, hw11, hs12, hw12, hs13, hw13, hs14, hw14, hs15, hw15, hs16, hw16, hs17, hw17, hs18, hw18, hs19, hw19, hs20, hw20, hs21, hw21, hs22, hw22, hs23, hw23, hs25, hw25, hs26, hw26, hs27, hw27, hs28, hw28, hs9b, hw9b, hs10b, hw10b, kd0, kd20, kd21, kd22, kd23, kd24, kd25, kd26, kd27, kd28, kd29, kd30, kd31, kd32, kd33, kd34, kd35, kd36, kd37, kd38, kd39, kd40, kd41, kd42, kd54, kd55, kd56, kd57, kd58, kd59, kd67, kd75, kd82, kd89, kd102, kd115, kd276, kd437, kd444, kd451, kd452, kd453, kd534, kd535, kd536, kd553, kd557, kd558, kd559, kd560, kd561, ↓xgI_u, ↓xpI_u, ↓xaI_u, ↓xsI_u, ↓xrk_u, ↓xrk0_u, ↓xob_v, ↓xmb_v, ↓xth_v, ↓xth_x, ↓jn_u, ↓xlen_u, ↓xaL_u, ↓xsL_u, ↓xbl_0, ↓xbl_1, eq_self, inb_n, inb_d, Sh_PI, Sh_PL, dk_PI, dk_PL, dr_PI, dr_PL, ↓reduceIte, Int32.reduceLE, Int32.reduceLT, Int32.reduceToNatClampNeg, Nat.reduceLT, Nat.reduceLeDiff, Nat.reduceEqDiff, Nat.reduceAdd, Nat.reduceMul, sh5, e6]
  | inl u =>
    rw [hs] at k5 a4
    have a4' : tAt b M4 A n 6 u.1.1 u.2 := a4
    have k5' : tSt b M5 A n (.inl (blS (xbN A) n u.2)) := k5
    obtain ⟨g48, g49, gq⟩ := k5'.ok
    obtain ⟨o1, o2, o3⟩ := smS_ok 6 0 (Nat.zero_le _) u.1 u.2 hs
    have hbl := (blS_le (X := xbN A) (L := n) _ u.2 rfl).1
    have a5 := a4'.to f5 (fun a k z => ⟨z.1, by have := z.2; omega⟩) (by omega) k5'
    have hcs := a5.len
    have h46 := k5'.2.1
    dsimp only
    by_cases c : n ≤ blS (xbN A) n u.2
    · rw [if_pos c]
      have hle := eq_true (show Int32.ofNat n ≤ Int32.ofNat (blS (xbN A) n u.2) by rw [i_le (by omega) (by omega)]; exact c)
      obtain ⟨h64, hrow⟩ := a5.2.1
      have f6 : fr (fun a k => a = b + 54 ∧ (k = 47 ∨ k = 63)) nz 0 0 M5 (dwPI (dwPI M5 (b + 54) 47 (-1)) (b + 54) 63 (Int32.ofNat u.1.1.length)) := ((fr.refl M5).pI _ (Or.inl ⟨rfl, Or.inl rfl⟩)).pI _ (Or.inl ⟨rfl, Or.inr rfl⟩)
      have sh6 := sh5.fr f6 nz_p
      have i47 : dwI (dwPI (dwPI M5 (b + 54) 47 (-1)) (b + 54) 63 (Int32.ofNat u.1.1.length)) (b + 54) 47 = -1 := by rw [di_ne (by omega), di_eq]
      have i63 : dwI (dwPI (dwPI M5 (b + 54) 47 (-1)) (b + 54) 63 (Int32.ofNat u.1.1.length)) (b + 54) 63 = Int32.ofNat u.1.1.length := di_eq
      have sh6' : Sh b (dwPI M5 (b + 54) 47 (-1)) := sh5
      have h64' : dwI (dwPI M5 (b + 54) 47 (-1)) (b + 54) 64 = Int32.ofNat u.1.1.length := by rw [di_ne (by omega)]; exact h64
      obtain ⟨M7, e7, f7, g7⟩ := t_laysG (M := dwPI (dwPI M5 (b + 54) 47 (-1)) (b + 54) 63 (Int32.ofNat u.1.1.length)) (src := b + 276) (dst := b + 115) (N := 160) (m := u.1.1.length) (by omega) (by have := shN sh6; omega) (by have := shN sh6; omega) (by omega) (by omega) (kd276 sh6) (fun i hi => pr276 sh6 i hi) (fun i hi => kr276 sh6 i hi) (kd115 sh6) (fun i hi => pr115 sh6 i hi) (fun i hi => kr115 sh6 i hi)
      have n6 : dwN (dwPI (dwPI M5 (b + 54) 47 (-1)) (b + 54) 63 (Int32.ofNat u.1.1.length)) = dwN M5 := rfl
      have w63 : dwI M7 (b + 54) 63 = Int32.ofNat u.1.1.length := (f7.i (by omega) (by omega)).trans i63
      have w47 : dwI M7 (b + 54) 47 = -1 := (f7.i (by omega) (by omega)).trans i47
      have G7 : fr (fun a k => (a = b + 54 ∧ (k = 47 ∨ k = 63)) ∨ (b + 116 ≤ a ∧ a ≤ b + 275)) nz 0 0 M5 M7 := (f6.mono (fun a k z => Or.inl z) (fun _ _ z => z) (Nat.le_refl _) (Nat.le_refl _)).t0 (f7.mono (fun a k z => Or.inr (by omega)) (fun _ _ z => z) (Nat.le_refl _) (Nat.le_refl _))
      have F7 : fr (fun a k => (sRt b a k ∧ ¬ (a = b + 54 ∧ k = 77) ∧ ¬ (b + 438 ≤ a ∧ a ≤ b + 443)) ∨ (a = b + 54 ∧ k = 63) ∨ (b + 116 ≤ a ∧ a ≤ b + 275)) nz 0 0 M M7 := (F5.mono (fun a k z => Or.inl z) (fun _ _ z => z) (Nat.le_refl _) (Nat.le_refl _)).t0 (G7.mono (fun a k z => by unfold sRt; omega) (fun _ _ z => z) (Nat.le_refl _) (Nat.le_refl _))
      have hrows : ∀ k x, u.1.1[k]? = some x → dwI M7 (b + 116 + k) 0 = x.1 ∧ dwI M7 (b + 116 + k) 1 = x.2 := fun k x hx => by
        have hk : k < u.1.1.length := (List.getElem?_eq_some_iff.mp hx).1
        obtain ⟨x1, x2⟩ := hrow k x hx
        have y0 := g7 k 0 hk (by omega)
        have y1 := g7 k 1 hk (by omega)
        rw [show b + 115 + 1 + k = b + 116 + k by omega, show b + 276 + 1 + k = b + 277 + k by omega, f6.i (by omega) (by omega)] at y0 y1
        exact ⟨y0.trans x1, y1.trans x2⟩
      refine ⟨M7, ?_, ⟨tCore_mk (A := aLaW A u.1.2.1) (sh.fr F7 nz_p) (tTold_fr2 sh hT.1.told F7 (fun i k hi => by unfold sRt; omega)) ⟨o3.2.2.2, u.1.1, by omega, w63, hrows, Or.inr ⟨u.1.2.2, o3.2.2.1⟩⟩ (hT.1.bk.fr sh hO.2.1.1 F7 (by omega) (fun a k h1 h2 => by omega)) ((F7.if (by have := shN sh; omega) (fun k => by unfold sRt; omega)).trans hT.1.now) (hT.1.pa.fr sh hO.2.2.2.1 F7 (by unfold sRt; omega) (fun a k h1 h2 => by unfold sRt; omega)) (hT.1.im.fr sh hO.2.2.2.2.2.1 F7 (by unfold sRt; omega) (fun a k h1 h2 => by unfold sRt; omega)) ((F7.i (by have := shN sh; omega) (by unfold sRt; omega)).trans hT.1.rs) w47 ⟨(G7.i (by omega) (by omega)).trans q45, fun k hk => absurd hk (Nat.not_lt_zero k)⟩ (aLaW_ok hO), (F7.i (by have := shN sh; omega) (by unfold sRt; omega)).trans hT.2.1, (F7.i (by have := shN sh; omega) (by unfold sRt; omega)).trans hT.2.2⟩, F7.mono (fun a k q => by unfold sRt at q; unfold tW; omega) (fun _ _ q => q) (Nat.le_refl _) (Nat.le_refl _), (G7.i (by omega) (by omega)).trans q44⟩
      simp only [g49, if_true, g48, h46, hle]
      rw [h64', i63, e7, xmb_v]
    · rw [if_neg c]
      have hle := eq_false (show ¬ Int32.ofNat n ≤ Int32.ofNat (blS (xbN A) n u.2) by rw [i_le (by omega) (by omega)]; exact c)
      obtain ⟨M6, e6, f6, k6⟩ := tS_wrong (k := 1) k5' (by omega) (blS (xbN A) n u.2)
      have e6' : m_X10_wrong M5 (b + 54) 1 (Int32.ofNat (blS (xbN A) n u.2)) = some ((), M6) := e6
      have sh6 := k6.1.1
      have F6 := F5.t0 (f6.mono (fun a k z => by unfold sWr at z; unfold sRt; omega) (fun _ _ z => z) (Nat.le_refl _) (Nat.le_refl _))
      have z := k6.bad.2.2
      obtain ⟨M7, e7, t7, f7, g7⟩ := T_fault hT F6 k6 ((f6.i (by omega) (by unfold sWr; omega)).trans q44) ((f6.i (by omega) (by unfold sWr; omega)).trans q45)
      refine ⟨M7, ?_, t7, f7, g7⟩
      simp only [g49, if_true, g48, h46, hle, if_false, e6', ↓gp0_2, ↓gp0_3, ↓gp0_4, ↓gp0_5, ↓gp0_6, ↓gp0_7, ↓gp0_8, ↓gp0_9, ↓gp0_10, ↓gp0_18, ↓gp0_19, ↓gp0_20, ↓gp0_22, ↓gp23_43, ↓gp23_32, ↓gp23_33, ↓gp23_34, ↓gp23_35, ↓gp23_36, ↓gp29_43, ↓gp29_32, ↓gp29_33, ↓gp29_34, ↓gp29_35, ↓gp29_36, ↓gp54_53, ↓gp54_54, ↓gp54_55, ↓gp54_56, ↓gp54_57, ↓gp54_58, ↓gp54_59, ↓gp54_60, ↓gp54_61, ↓gp54_62, ↓gp54_65, ↓gp54_66, ↓gp54_67, ↓gp54_68, ↓gp54_69, ↓gp54_70, ↓gp54_71, ↓gp54_73, ↓gp54_74, ↓gp54_75, ↓gp54_76, ↓gp54_84, ↓gp54_85, ↓gp54_87, ↓gp54_88, ↓xr59, kr59, ↓xr67, kr67, ↓xr75, kr75, ↓xr82, kr82, ↓xr89, kr89, ↓xr102, kr102, ↓xr115, kr115, ↓xr276, kr276, ↓xr437, kr437, ↓xr444, kr444, ↓xr453, kr453, ↓xr536, kr536, ↓xr553, kr553, hs0, hw0, hs1, hw1, hs2, hw2, hs3, hw3, hs4, hw4, hs5, hw5, hs6, hw6, hs7, hw7, hs8, hw8, hs9, hw9, hs10, hw10, hs11, hw11, hs12, hw12, hs13, hw13, hs14, hw14, hs15, hw15, hs16, hw16, hs17, hw17, hs18, hw18, hs19, hw19, hs20, hw20, hs21, hw21, hs22, hw22, hs23, hw23, hs25, hw25, hs26, hw26, hs27, hw27, hs28, hw28, hs9b, hw9b, hs10b, hw10b, kd0, kd20, kd21, kd22, kd23, kd24, kd25, kd26, kd27, kd28, kd29, kd30, kd31, kd32, kd33, kd34, kd35, kd36, kd37, kd38, kd39, kd40, kd41, kd42, kd54, kd55, kd56, kd57, kd58, kd59, kd67, kd75, kd82, kd89, kd102, kd115, kd276, kd437, kd444, kd451, kd452, kd453, kd534, kd535, kd536, kd553, kd557, kd558, kd559, kd560, kd561, ↓xgI_u, ↓xpI_u, ↓xaI_u, ↓xsI_u, ↓xrk_u, ↓xrk0_u, ↓xob_v, ↓xmb_v, ↓xth_v, ↓xth_x, ↓jn_u, ↓xlen_u, ↓xaL_u, ↓xsL_u, ↓xbl_0, ↓xbl_1, eq_self, inb_n, inb_d, Sh_PI, Sh_PL, dk_PI, dk_PL, dr_PI, dr_PL, ↓reduceIte, Int32.reduceLE, Int32.reduceLT, Int32.reduceToNatClampNeg, Nat.reduceLT, Nat.reduceLeDiff, Nat.reduceEqDiff, Nat.reduceAdd, Nat.reduceMul, sh6, z, e7]
theorem call_law (hC : CInv b w M A) (hT : TInv b M A) (hK : KS b M) (hR : room M 9000 113000) (x : Int32) : agree b M (fun M => m_X0_law M b x (b + 561)) (fun M => m_X10_law M (b + 54) x) := by
  have hO := hC.1.ok
  have hx600 := (tpC_of hC).2.1
  have i15 := hC.1.tx.1
  have hs := hC.1.sh
  have hf : ∀ M1 q, m_X1_law M b x = some (.inr (1, q), M1) → m_X0_law M b x (b + 561) = some (.inl 1, M1) := fun M1 q e => by
    simp -implicitDefEqProofs only [m_X0_law, ↓xgI_u, ↓xpI_u, ↓xaI_u, ↓xsI_u, ↓xrk_u, ↓xrk0_u, ↓xob_v, ↓xmb_v, ↓xth_v, ↓xth_x, ↓jn_u, ↓xlen_u, ↓xaL_u, ↓xsL_u, ↓xbl_0, ↓xbl_1, eq_self, inb_n, inb_d, Sh_PI, Sh_PL, dk_PI, dk_PL, dr_PI, dr_PL, ↓reduceIte, Int32.reduceLE, Int32.reduceLT, Int32.reduceToNatClampNeg, Nat.reduceLT, Nat.reduceLeDiff, Nat.reduceEqDiff, Nat.reduceAdd, Nat.reduceMul, kd0 hs, e]
  rcases in_or x ((aTx A).1 + 1) with ⟨n, hn, rfl⟩ | hx
  · by_cases h150 : n ≤ 150
    · have hc := C_law hC hK (show n ≤ (aTx A).1 by omega) h150 hR
      have ht := fun M1 (h1 : TInv b M1 A) => T_law h1 (show n ≤ (aTx A).1 by omega) h150
      have ok : ∀ M1 (v : Int32), m_X1_law M b (Int32.ofNat n) = some (.inl v, M1) → dwK M1 (b + 561) = (3, 1) → m_X0_law M b (Int32.ofNat n) (b + 561) = some (.inl 0, dwPL M1 (b + 561) 0 v.toInt64) := fun M1 v e k => by
        simp -implicitDefEqProofs only [m_X0_law, ↓xgI_u, ↓xpI_u, ↓xaI_u, ↓xsI_u, ↓xrk_u, ↓xrk0_u, ↓xob_v, ↓xmb_v, ↓xth_v, ↓xth_x, ↓jn_u, ↓xlen_u, ↓xaL_u, ↓xsL_u, ↓xbl_0, ↓xbl_1, eq_self, inb_n, inb_d, Sh_PI, Sh_PL, dk_PI, dk_PL, dr_PI, dr_PL, ↓reduceIte, Int32.reduceLE, Int32.reduceLT, Int32.reduceToNatClampNeg, Nat.reduceLT, Nat.reduceLeDiff, Nat.reduceEqDiff, Nat.reduceAdd, Nat.reduceMul, kd0 hs, e, k]
      generalize lwS (xbN A) n = R at *
      cases R with
      | inl t =>
        refine agree_mk (A' := aLaW A t.2.1) (k := 0) (v := 1) hT (c_rdk (f := fun M => m_X0_law M b (Int32.ofNat n) (b + 561)) hc fun M1 e k => ok M1 _ e k) fun M1 h1 => ?_
        obtain ⟨M2, e, i, f, k⟩ := ht M1 h1
        exact ⟨M2, _, e, i, f, k, fun _ => rfl⟩
      | inr e =>
        refine agree_mk (A' := aRd A (aBk A) (Int32.ofNat e.2)) (k := 0) (v := Int32.ofNat e.1 - 10) hT (c_rdk (f := fun M => m_X0_law M b (Int32.ofNat n) (b + 561)) hc fun M1 e k => ok M1 _ e k) fun M1 h1 => ?_
        obtain ⟨M2, e, i, f, k⟩ := ht M1 h1
        exact ⟨M2, _, e, i, f, k, fun _ => rfl⟩
    · have n150 : (150 : Int32) < Int32.ofNat n := by rw [show (150 : Int32) = Int32.ofNat 150 from rfl, i_lt (by omega) (by omega)]; omega
      have n150' : (Int32.ofNat n ≤ 150) = False := eq_false (Int32.not_le.mpr n150)
      refine rd_fail hC hT hR ⟨_, by
        unfold m_X1_law
        rw [jn_u, jn_u, if_neg (of_eq_false (i_neg (by omega))), xgI_u (by rw [kd0 hs]; rfl), i15, if_neg (by rw [i_lt (by omega) (by omega)]; omega), if_pos n150]
        show xrk M b 0 (xth (m_X1_need M b 0) _ _) = _
        rw [xrk_u (kd0 hs)]⟩ hf fun M1 M2 h1 e => ?_
      have hg := T_guard h1 (show n ≤ (aTx A).1 by omega)
      have s1 := h1.1.sh
      have s0 := (tinv_z h1).1.1.sh
      simp -implicitDefEqProofs only [m_X10_law, ↓gp0_2, ↓gp0_3, ↓gp0_4, ↓gp0_5, ↓gp0_6, ↓gp0_7, ↓gp0_8, ↓gp0_9, ↓gp0_10, ↓gp0_18, ↓gp0_19, ↓gp0_20, ↓gp0_22, ↓gp23_43, ↓gp23_32, ↓gp23_33, ↓gp23_34, ↓gp23_35, ↓gp23_36, ↓gp29_43, ↓gp29_32, ↓gp29_33, ↓gp29_34, ↓gp29_35, ↓gp29_36, ↓gp54_53, ↓gp54_54, ↓gp54_55, ↓gp54_56, ↓gp54_57, ↓gp54_58, ↓gp54_59, ↓gp54_60, ↓gp54_61, ↓gp54_62, ↓gp54_65, ↓gp54_66, ↓gp54_67, ↓gp54_68, ↓gp54_69, ↓gp54_70, ↓gp54_71, ↓gp54_73, ↓gp54_74, ↓gp54_75, ↓gp54_76, ↓gp54_84, ↓gp54_85, ↓gp54_87, ↓gp54_88, ↓xr59, kr59, ↓xr67, kr67, ↓xr75, kr75, ↓xr82, kr82, ↓xr89, kr89, ↓xr102, kr102, ↓xr115, kr115, ↓xr276, kr276, ↓xr437, kr437, ↓xr444, kr444, ↓xr453, kr453, ↓xr536, kr536, ↓xr553, kr553, hs0, hw0, hs1, hw1, hs2, hw2, hs3, hw3, hs4, hw4, hs5, hw5, hs6, hw6, hs7, hw7, hs8, hw8, hs9, hw9, hs10, hw10, hs11, hw11, hs12, hw12, hs13, hw13, hs14, hw14, hs15, hw15, hs16, hw16, hs17, hw17, hs18, hw18, hs19, hw19, hs20, hw20, hs21, hw21, hs22, hw22, hs23, hw23, hs25, hw25, hs26, hw26, hs27, hw27, hs28, hw28, hs9b, hw9b, hs10b, hw10b, kd0, kd20, kd21, kd22, kd23, kd24, kd25, kd26, kd27, kd28, kd29, kd30, kd31, kd32, kd33, kd34, kd35, kd36, kd37, kd38, kd39, kd40, kd41, kd42, kd54, kd55, kd56, kd57, kd58, kd59, kd67, kd75, kd82, kd89, kd102, kd115, kd276, kd437, kd444, kd451, kd452, kd453, kd534, kd535, kd536, kd553, kd557, kd558, kd559, kd560, kd561, ↓xgI_u, ↓xpI_u, ↓xaI_u, ↓xsI_u, ↓xrk_u, ↓xrk0_u, ↓xob_v, ↓xmb_v, ↓xth_v, ↓xth_x, ↓jn_u, ↓xlen_u, ↓xaL_u, ↓xsL_u, ↓xbl_0, ↓xbl_1, eq_self, inb_n, inb_d, Sh_PI, Sh_PL, dk_PI, dk_PL, dr_PI, dr_PL, ↓reduceIte, Int32.reduceLE, Int32.reduceLT, Int32.reduceToNatClampNeg, Nat.reduceLT, Nat.reduceLeDiff, Nat.reduceEqDiff, Nat.reduceAdd, Nat.reduceMul, s1, s0, hg, e10, if_false, n150', e]
  · have hg0 := C_guard0 hC hx
    refine rd_fail hC hT hR ?_ hf fun M1 M2 h1 e => ?_
    · rcases hg0 with h | ⟨h, h'⟩
      · refine ⟨_, by
          unfold m_X1_law
          rw [jn_u, jn_u, if_pos h]
          show xrk M b 0 (xth (m_X1_need M b 0) _ _) = _
          rw [xrk_u (kd0 hs)]⟩
      · refine ⟨_, by
          unfold m_X1_law
          rw [jn_u, jn_u, if_neg h, xgI_u (by rw [kd0 hs]; rfl), if_pos h']
          show xrk M b 0 (xth (m_X1_need M b 0) _ _) = _
          rw [xrk_u (kd0 hs)]⟩
    · have hg := T_guard0 h1 hx
      have s1 := h1.1.sh
      have s0 := (tinv_z h1).1.1.sh
      simp -implicitDefEqProofs only [m_X10_law, ↓gp0_2, ↓gp0_3, ↓gp0_4, ↓gp0_5, ↓gp0_6, ↓gp0_7, ↓gp0_8, ↓gp0_9, ↓gp0_10, ↓gp0_18, ↓gp0_19, ↓gp0_20, ↓gp0_22, ↓gp23_43, ↓gp23_32, ↓gp23_33, ↓gp23_34, ↓gp23_35, ↓gp23_36, ↓gp29_43, ↓gp29_32, ↓gp29_33, ↓gp29_34, ↓gp29_35, ↓gp29_36, ↓gp54_53, ↓gp54_54, ↓gp54_55, ↓gp54_56, ↓gp54_57, ↓gp54_58, ↓gp54_59, ↓gp54_60, ↓gp54_61, ↓gp54_62, ↓gp54_65, ↓gp54_66, ↓gp54_67, ↓gp54_68, ↓gp54_69, ↓gp54_70, ↓gp54_71, ↓gp54_73, ↓gp54_74, ↓gp54_75, ↓gp54_76, ↓gp54_84, ↓gp54_85, ↓gp54_87, ↓gp54_88, ↓xr59, kr59, ↓xr67, kr67, ↓xr75, kr75, ↓xr82, kr82, ↓xr89, kr89, ↓xr102, kr102, ↓xr115, kr115, ↓xr276, kr276, ↓xr437, kr437, ↓xr444, kr444, ↓xr453, kr453, ↓xr536, kr536, ↓xr553, kr553, hs0, hw0, hs1, hw1, hs2, hw2, hs3, hw3, hs4, hw4, hs5, hw5, hs6, hw6, hs7, hw7, hs8, hw8, hs9, hw9, hs10, hw10, hs11, hw11, hs12, hw12, hs13, hw13, hs14, hw14, hs15, hw15, hs16, hw16, hs17, hw17, hs18, hw18, hs19, hw19, hs20, hw20, hs21, hw21, hs22, hw22, hs23, hw23, hs25, hw25, hs26, hw26, hs27, hw27, hs28, hw28, hs9b, hw9b, hs10b, hw10b, kd0, kd20, kd21, kd22, kd23, kd24, kd25, kd26, kd27, kd28, kd29, kd30, kd31, kd32, kd33, kd34, kd35, kd36, kd37, kd38, kd39, kd40, kd41, kd42, kd54, kd55, kd56, kd57, kd58, kd59, kd67, kd75, kd82, kd89, kd102, kd115, kd276, kd437, kd444, kd451, kd452, kd453, kd534, kd535, kd536, kd553, kd557, kd558, kd559, kd560, kd561, ↓xgI_u, ↓xpI_u, ↓xaI_u, ↓xsI_u, ↓xrk_u, ↓xrk0_u, ↓xob_v, ↓xmb_v, ↓xth_v, ↓xth_x, ↓jn_u, ↓xlen_u, ↓xaL_u, ↓xsL_u, ↓xbl_0, ↓xbl_1, eq_self, inb_n, inb_d, Sh_PI, Sh_PL, dk_PI, dk_PL, dr_PI, dr_PL, ↓reduceIte, Int32.reduceLE, Int32.reduceLT, Int32.reduceToNatClampNeg, Nat.reduceLT, Nat.reduceLeDiff, Nat.reduceEqDiff, Nat.reduceAdd, Nat.reduceMul, s1, s0, hg, if_true, e10, if_false, e]
end LAW
