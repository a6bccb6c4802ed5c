/-! A WORK: the component's acts; the season's counters stay -/
def sSn (s : Nat) : Nat → Nat → Prop := fun x k => s ≤ x ∧ x ≤ s + 5 ∧ ¬ (x = s ∧ 40 ≤ k ∧ k ≤ 42)
theorem cSep.fn {b s : Nat} {w : Nat → Nat} (h : cSep b w s) : cFree b w (sSn s) := fun a k q hi => (h a q.1 q.2.1).2 hi
def sSG (b s : Nat) : Nat → Nat → Prop := fun x k => (s ≤ x ∧ x ≤ s + 5 ∧ ¬ (x = s ∧ 40 ≤ k ∧ k ≤ 42)) ∨ x = b + 20
section COMP
variable {b s : Nat} {w : Nat → Nat} {M : dwSt} {T : dvT} {lw : (Nat → Int32) → Int32}
theorem c_pass2 {r : Nat → Int32} (hs : Sh b M) (hT : cTold b w M T) (hS : cSea b M s (tP T) r) (hsep : cSep b w s) : ∃ M', m_X9_passes M s = some ((), M') ∧ fr (sSn s) nz 0 0 M M' ∧ cSea b M' s (tP T) (dayS T r) := by
  have hP : tP T ≤ 7 := by obtain ⟨_, _, _, h3⟩ := hT; exact h3.1
  have hn := hS.1.1
  simp -implicitDefEqProofs only [m_X9_passes, jn_u]
  refine lpx (E := fun x => ∃ M', x = some ((), M') ∧ fr (sSn s) nz 0 0 M M' ∧ cSea b M' s (tP T) (dayS T r)) (fun f i (M' : dwSt) => L_X9_passes_2 s (fun (M1 : dwSt) => xpI M1 37 s 0 (fun M2 => xgI M2 39 s (fun v3 => xpI M2 39 s (v3 + 1) (fun M4 => some ((), M4))))) f (Int32.ofNat i) M') (tP T) (fun i M' => fr (sSn s) nz 0 0 M M' ∧ cRowA M' s (itr (dayP T) r i) ∧ ∀ p, p < i → itr (dayP T) r i (14 + p) = 0) ?_ ?_ 1000000 0 M (by omega) (by omega) ⟨fr.refl M, hS.2.a, fun p hp => by omega⟩
  · intro f M' ⟨hf, hr, hz⟩
    have hs' := hs.fr hf nz_p
    have hT' := hT.fr hs hf hsep.fn nz_f (fun q => q)
    have hsh := hS.1.fr hf (fun _ q => q)
    obtain ⟨g43, -⟩ := hsh.g
    have f2 := (hf.pI (a := s) (k := 37) 0 (Or.inl (by unfold sSn; omega))).pI (a := s) (k := 39) (dwI M' s 39 + 1) (Or.inl (by unfold sSn; omega))
    refine ⟨_, ?_, f2, hS.1.fr f2 (fun _ q => q), cRowA.b ?_ ?_⟩
    · simp -implicitDefEqProofs only [L_X9_passes_2, ↓xgI_u, ↓xpI_u, ↓xaI_u, ↓xsI_u, ↓xrk_u, ↓xrk0_u, ↓xob_v, ↓xmb_v, ↓xth_v, ↓xth_x, ↓jn_u, ↓xlen_u, ↓xaL_u, ↓xsL_u, ↓xbl_0, ↓xbl_1, eq_self, inb_n, inb_d, Sh_PI, Sh_PL, dk_PI, dk_PL, dr_PI, dr_PL, ↓reduceIte, Int32.reduceLE, Int32.reduceLT, Int32.reduceToNatClampNeg, Nat.reduceLT, Nat.reduceLeDiff, Nat.reduceEqDiff, Nat.reduceAdd, Nat.reduceMul, g43, kd0 hs', c_persons hs' hT', i_geT, if_true, hsh.2.1, hs2, hw2]
      simp (disch := omega) only [di_ne]
    · obtain ⟨r1, r2, r3, r4, r5, r6, r7⟩ := hr
      refine ⟨fun p hp => ?_, fun p hp => ?_, fun p hp => ?_, fun p hp => ?_, fun p hp => ?_, ?_, ?_⟩
      · simp (disch := omega) only [di_ne, dayS, rset_ne]; exact r1 p hp
      · simp (disch := omega) only [di_ne, dayS, rset_ne]; exact r2 p hp
      · simp (disch := omega) only [di_ne, dayS, rset_ne]; exact r3 p hp
      · simp (disch := omega) only [di_ne, dayS, rset_ne]; exact r4 p hp
      · simp (disch := omega) only [di_ne, dayS, rset_ne]; exact r5 p hp
      · simp (disch := omega) only [di_ne, dayS, rset_ne]; exact r6
      · simp (disch := omega) only [di_eq, dayS, rset_eq]; rw [r7]
    · rw [who_z (fun q hq => ?_)]
      · simp (disch := omega) only [di_ne, di_eq]
      · unfold dayS; rw [rset_ne (by omega)]; exact hz q hq
  · intro f i M' hi ⟨hf, hr, hz⟩ hnx
    have hs' := hs.fr hf nz_p
    have hT' := hT.fr hs hf hsep.fn nz_f (fun q => q)
    have hsh := hS.1.fr hf (fun _ q => q)
    obtain ⟨g43, g32, g33, -⟩ := hsh.g
    obtain ⟨-, k0, -, -, -, -, -, -, k1, k2, k3, k4, k5⟩ := hsh
    obtain ⟨d, g0, gd, -⟩ := c_drink hs' hT'
    have hi7 : i < 7 := by omega
    obtain ⟨r1, r2, r3, r4, r5, r6, r7⟩ := hr
    have hd : lessS (tdr T) (itr (dayP T) r i 77) = drkS T (itr (dayP T) r i) := rfl
    simp only [show itr (dayP T) r (i + 1) = dayP T i (itr (dayP T) r i) from rfl] at hnx
    generalize itr (dayP T) r i = R at *
    have g0' : ∀ (v : Int32) {ρ : Type} (K : Nat → Option ρ), xgR (dwPI M' s 38 v) 0 b K = K d := fun v ρ K => g0 K
    have gd' : ∀ (v : Int32) {ρ : Type} (K : Int32 → Option ρ), xgI (dwPI M' s 38 v) 30 d K = K (tdr T) := fun v ρ K => by
      have h1 := gd (fun x => some x)
      have h2 : dwHas (dwK M' d) 30 = true := by
        unfold xgI at h1
        by_cases e : dwHas (dwK M' d) 30 = true
        · exact e
        · rw [if_neg e] at h1; cases h1
      rw [xgI_u (M := dwPI M' s 38 v) h2, di_ne (Or.inr (by omega))]
      rw [xgI_u h2] at h1
      exact congrArg K (Option.some.inj h1)
    have fin : ∀ th, (if drkS T R = tdr T then 0 else lessS 99 (R (7 + i) + tdr T - drkS T R)) = th → cRowA (dwPI (dwPI (dwPI M' s 38 (R 77 - drkS T R)) (s + 2) i th) (s + 1) i (moreS 0 (R i - 1))) s (dayP T i R) ∧ (∀ p, p < i + 1 → dayP T i R (14 + p) = 0) := by
      intro th hth
      refine ⟨⟨fun p hp => ?_, fun p hp => ?_, fun p hp => ?_, fun p hp => ?_, fun p hp => ?_, ?_, ?_⟩, fun p hp => ?_⟩
      · by_cases e : p = i
        · subst e
          unfold dayP
          simp (disch := omega) only [di_eq, rset_ne, rset_eq]
        · rw [dayP_o (by omega) (by omega) (by omega) (by omega)]
          simp (disch := omega) only [di_ne]; exact r1 p hp
      · by_cases e : p = i
        · subst e
          unfold dayP
          simp (disch := omega) only [di_eq, di_ne, rset_ne, rset_eq]
          exact hth.symm
        · rw [dayP_o (by omega) (by omega) (by omega) (by omega)]
          simp (disch := omega) only [di_ne]; exact r2 p hp
      · rw [dayP_o (by omega) (by omega) (by omega) (by omega)]
        simp (disch := omega) only [di_ne]; exact r3 p hp
      · rw [dayP_o (by omega) (by omega) (by omega) (by omega)]
        simp (disch := omega) only [di_ne]; exact r4 p hp
      · rw [dayP_o (by omega) (by omega) (by omega) (by omega)]
        simp (disch := omega) only [di_ne]; exact r5 p hp
      · unfold dayP
        simp (disch := omega) only [di_eq, di_ne, rset_ne, rset_eq]
      · rw [dayP_o (by omega) (by omega) (by omega) (by omega)]
        simp (disch := omega) only [di_ne]; exact r7
      · by_cases e : p = i
        · subst e
          unfold dayP; rw [rset_eq]
        · rw [dayP_o (by omega) (by omega) (by omega) (by omega)]; exact hz p (by omega)
    have ff : ∀ th, fr (sSn s) nz 0 0 M (dwPI (dwPI (dwPI M' s 38 (R 77 - drkS T R)) (s + 2) i th) (s + 1) i (moreS 0 (R i - 1))) := fun th => ((hf.pI _ (Or.inl (by unfold sSn; omega))).pI _ (Or.inl (by unfold sSn; omega))).pI _ (Or.inl (by unfold sSn; omega))
    have g43' : ∀ (v : Int32) {ρ : Type} (K : Nat → Option ρ), xgR (dwPI M' s 38 v) 43 s K = K b := fun v ρ K => g43 K
    have g33' : ∀ (v : Int32) {ρ : Type} (K : Nat → Option ρ), xgR (dwPI M' s 38 v) 33 s K = K (s + 2) := fun v ρ K => g33 K
    have g32' : ∀ (v u : Int32) {ρ : Type} (K : Nat → Option ρ), xgR (dwPI (dwPI M' s 38 v) (s + 2) i u) 32 s K = K (s + 1) := fun v u ρ K => g32 K
    by_cases hc : drkS T R = tdr T
    · obtain ⟨p1, p2⟩ := fin 0 (if_pos hc)
      simp -implicitDefEqProofs only [L_X9_passes_2, ↓xgI_u, ↓xpI_u, ↓xaI_u, ↓xsI_u, ↓xrk_u, ↓xrk0_u, ↓xob_v, ↓xmb_v, ↓xth_v, ↓xth_x, ↓jn_u, ↓xlen_u, ↓xaL_u, ↓xsL_u, ↓xbl_0, ↓xbl_1, eq_self, inb_n, inb_d, Sh_PI, Sh_PL, dk_PI, dk_PL, dr_PI, dr_PL, ↓reduceIte, Int32.reduceLE, Int32.reduceLT, Int32.reduceToNatClampNeg, Nat.reduceLT, Nat.reduceLeDiff, Nat.reduceEqDiff, Nat.reduceAdd, Nat.reduceMul, g43, kd0 hs', c_persons hs' hT', i_geF hi (by omega), if_false, k0, hs2, hw2, r6, g0, gd, g43', g0', gd', g33', min_less, hd, if_true, hc, k2, hi7, i_nat (show i < 2147483648 by omega), g32', k1, max_more, i_succ]
      simp (disch := omega) only [di_ne]
      rw [r1 i hi7, ← hc]
      exact hnx _ ⟨ff 0, p1, p2⟩
    · obtain ⟨p1, p2⟩ := fin _ (if_neg hc)
      simp -implicitDefEqProofs only [L_X9_passes_2, ↓xgI_u, ↓xpI_u, ↓xaI_u, ↓xsI_u, ↓xrk_u, ↓xrk0_u, ↓xob_v, ↓xmb_v, ↓xth_v, ↓xth_x, ↓jn_u, ↓xlen_u, ↓xaL_u, ↓xsL_u, ↓xbl_0, ↓xbl_1, eq_self, inb_n, inb_d, Sh_PI, Sh_PL, dk_PI, dk_PL, dr_PI, dr_PL, ↓reduceIte, Int32.reduceLE, Int32.reduceLT, Int32.reduceToNatClampNeg, Nat.reduceLT, Nat.reduceLeDiff, Nat.reduceEqDiff, Nat.reduceAdd, Nat.reduceMul, g43, kd0 hs', c_persons hs' hT', i_geF hi (by omega), if_false, k0, hs2, hw2, r6, g0, gd, g43', g0', gd', g33', min_less, hd, hc, k2, hi7, i_nat (show i < 2147483648 by omega), g32', k1, max_more, i_succ]
      simp (disch := omega) only [di_ne]
      rw [r1 i hi7, r2 i hi7, less_comm _ 99]
      exact hnx _ ⟨ff _, p1, p2⟩
theorem c_tell2 {j p : Nat} {r : Nat → Int32} (h : cEnv b w M T lw) (hS : cSea b M s (tP T) r) (hsep : cSep b w s) (hx : ¬ (s ≤ b + 20 ∧ b + 20 ≤ s + 5)) (hj : j < tJ T) (hp : p < tP T) (h01 : r (14 + p) = 0 ∨ r (14 + p) = 1) : ∃ M', m_X9_tells M s (Int32.ofNat j) (Int32.ofNat p) = some (telF p r, M') ∧ fr (sSG b s) nz 0 0 M M' ∧ cSea b M' s (tP T) (telS T lw j p r) := by
  have hO : tOK T := by obtain ⟨_, ⟨_, _, _, h3⟩, _⟩ := h; exact h3
  have o1 := hO.1
  have o2 := hO.2.1
  have hp7 : p < 7 := by omega
  obtain ⟨-, k0, -, -, -, -, -, -, k1, k2, k3, k4, k5⟩ := hS.1
  have hb := hS.2.2.2.2.2.2.1
  have hw := has_who (r := r) (o := 14) o1 hp
  by_cases hc : r (14 + p) = 1
  · refine ⟨M, ?_, fr.refl M, ?_⟩
    · have h1 : ((whoS (tP T) r 14 >>> (Int32.ofNat p &&& 31)) &&& 1 = 1) = True := eq_true (hw.mpr (by rw [hc]; decide))
      unfold telF
      simp -implicitDefEqProofs only [m_X9_tells, m_X1_has, ↓xgI_u, ↓xpI_u, ↓xaI_u, ↓xsI_u, ↓xrk_u, ↓xrk0_u, ↓xob_v, ↓xmb_v, ↓xth_v, ↓xth_x, ↓jn_u, ↓xlen_u, ↓xaL_u, ↓xsL_u, ↓xbl_0, ↓xbl_1, eq_self, inb_n, inb_d, Sh_PI, Sh_PL, dk_PI, dk_PL, dr_PI, dr_PL, ↓reduceIte, Int32.reduceLE, Int32.reduceLT, Int32.reduceToNatClampNeg, Nat.reduceLT, Nat.reduceLeDiff, Nat.reduceEqDiff, Nat.reduceAdd, Nat.reduceMul, k0, hs2, hb, h1, if_true, hc, show ((1 : Int32) = 0) = False from eq_false (by decide), if_false]
    · unfold telS; rw [if_pos hc]; exact hS
  · have hc0 : r (14 + p) = 0 := h01.resolve_right hc
    have h1 : ((whoS (tP T) r 14 >>> (Int32.ofNat p &&& 31)) &&& 1 = 1) = False := eq_false (fun q => hw.mp q (by rw [hc0]; decide))
    obtain ⟨M1, u1, f1⟩ := c_laugh h hS hj hp
    have h' := h.fr f1 sFa_f
    have hS1 := hS.fr f1 (fun i k hi q => by unfold sFa at q; omega) (fun _ q => q)
    obtain ⟨g43, g32, g33, g34, g35, g36⟩ := hS1.1.g
    obtain ⟨hn1, k0', -, -, -, -, -, -, k1', k2', k3', k4', k5'⟩ := hS1.1
    obtain ⟨q, q1, q2, q3, q4, q5⟩ := c_personOf h'.1 h'.2.1 hp
    obtain ⟨r1, r2, r3, r4, r5, r6, r7, r8⟩ := hS1.2
    have hx42 : 7 * j + p < 42 := by omega
    have g36' : ∀ (v : Int32) {ρ : Type} (K : Nat → Option ρ), xgR (dwPI M1 s 38 v) 36 s K = K (s + 5) := fun v ρ K => g36 K
    have g34' : ∀ (v v2 : Int32) (k2 : Nat) {ρ : Type} (K : Nat → Option ρ), xgR (dwPI (dwPI M1 s 38 v) (s + 5) k2 v2) 34 s K = K (s + 3) := fun v _ _ ρ K => g34 K
    have g35' : ∀ (v v2 v3 : Int32) (k2 k3 : Nat) {ρ : Type} (K : Nat → Option ρ), xgR (dwPI (dwPI (dwPI M1 s 38 v) (s + 5) k2 v2) (s + 3) k3 v3) 35 s K = K (s + 4) := fun v _ _ _ _ ρ K => g35 K
    have inS : ∀ i, i ≤ 5 → ∀ k, ¬ (i = 0 ∧ 40 ≤ k ∧ k ≤ 42) → (sSG b s (s + i) k ∨ dwN M ≤ s + i) := fun i hi k hk => Or.inl (Or.inl ⟨by omega, by omega, by omega⟩)
    have f2 := (((((f1.mono (S' := sSG b s) (fun x k q => Or.inr q) (fun _ _ q => q) (Nat.le_refl _) (Nat.le_refl _)).pI (a := s) (k := 38) (lessS 999 (r 77 + lghS T lw r j p * tpe T p 0)) (inS 0 (by omega) _ (by omega))).pI (a := s + 5) (k := 7 * j + p) (r (35 + (7 * j + p)) + 1) (inS 5 (by omega) _ (by omega))).pI (a := s + 3) (k := p) (r (21 + p) + 1) (inS 3 (by omega) _ (by omega))).pI (a := s + 4) (k := p) (r (28 + p) + lghS T lw r j p) (inS 4 (by omega) _ (by omega))).pI (a := s) (k := 37) (whoS (tP T) r 14 ||| bI (Int32.ofNat p)) (inS 0 (by omega) _ (by omega))
    refine ⟨_, ?_, f2, hS.1.fr f2 (fun _ q => q), cRowA.b ⟨fun q hq => ?_, fun q hq => ?_, fun q hq => ?_, fun q hq => ?_, fun k hk => ?_, ?_, ?_⟩ ?_⟩
    · unfold telF
      simp -implicitDefEqProofs only [m_X9_tells, m_X1_has, ↓xgI_u, ↓xpI_u, ↓xaI_u, ↓xsI_u, ↓xrk_u, ↓xrk0_u, ↓xob_v, ↓xmb_v, ↓xth_v, ↓xth_x, ↓jn_u, ↓xlen_u, ↓xaL_u, ↓xsL_u, ↓xbl_0, ↓xbl_1, eq_self, inb_n, inb_d, Sh_PI, Sh_PL, dk_PI, dk_PL, dr_PI, dr_PL, ↓reduceIte, Int32.reduceLE, Int32.reduceLT, Int32.reduceToNatClampNeg, Nat.reduceLT, Nat.reduceLeDiff, Nat.reduceEqDiff, Nat.reduceAdd, Nat.reduceMul, k0, hs2, hw2, hb, h1, if_false, if_true, hc, u1, k0', r7, g43, kd0 h'.1, q1, q2, hs6, q3, min_less, g36', k5', x_7, hx42, i_nat (show 7 * j + p < 2147483648 by omega), g34', k3', hp7, i_nat (show p < 2147483648 by omega), g35', k4']
      simp (disch := omega) only [di_ne]
      rw [r3 p hp7, r4 p hp7, r5 _ hx42, r6, less_comm _ 999]
      rfl
    · unfold telS
      rw [if_neg hc]
      simp (disch := omega) only [di_ne, rset_ne]; exact r1 q hq
    · unfold telS
      rw [if_neg hc]
      simp (disch := omega) only [di_ne, rset_ne]; exact r2 q hq
    · unfold telS
      rw [if_neg hc]
      by_cases e : q = p
      · subst e
        simp (disch := omega) only [di_ne, di_eq, rset_ne, rset_eq]
      · simp (disch := omega) only [di_ne, rset_ne]; exact r3 q hq
    · unfold telS
      rw [if_neg hc]
      by_cases e : q = p
      · subst e
        simp (disch := omega) only [di_ne, di_eq, rset_ne, rset_eq]
      · simp (disch := omega) only [di_ne, rset_ne]; exact r4 q hq
    · unfold telS
      rw [if_neg hc]
      by_cases e : k = 7 * j + p
      · subst e
        rw [← Nat.add_assoc]
        simp (disch := omega) only [di_ne, di_eq, rset_ne, rset_eq]
      · simp (disch := omega) only [di_ne, rset_ne]; exact r5 k hk
    · unfold telS
      rw [if_neg hc]
      simp (disch := omega) only [di_ne, di_eq, rset_ne, rset_eq]
    · unfold telS
      rw [if_neg hc]
      simp (disch := omega) only [di_ne, rset_ne]; exact r8
    · rw [di_eq]
      refine (who_set o1 hp ?_ fun q hq hqp => ?_).symm
      · unfold telS
        rw [if_neg hc]
        simp (disch := omega) only [rset_ne, rset_eq]
        decide
      · unfold telS
        rw [if_neg hc]
        simp (disch := omega) only [rset_ne]
theorem c_grv2 {p : Nat} {n : Int32} {r : Nat → Int32} (hS : cSea b M s (tP T) r) (hT7 : tP T ≤ 7) (hp : p < 7) : ∃ M', m_X9_grieves M s (Int32.ofNat p) n = some (grvF p n r, M') ∧ fr (sSn s) nz 0 0 M M' ∧ cSea b M' s (tP T) (grvS p n r) := by
  obtain ⟨g43, g32, g33, g34, g35, g36⟩ := hS.1.g
  obtain ⟨-, k0, -, -, -, -, -, -, k1, k2, k3, k4, k5⟩ := hS.1
  obtain ⟨r1, r2, r3, r4, r5, r6, r7, r8⟩ := hS.2
  unfold grvF grvS
  by_cases hc : r p < n
  · have f2 := (fr.refl (S := sSn s) (Z := nz) M).pI (a := s + 1) (k := p) n (Or.inl (by unfold sSn; omega))
    refine ⟨_, ?_, f2, ?_⟩
    · simp -implicitDefEqProofs only [m_X9_grieves, ↓xgI_u, ↓xpI_u, ↓xaI_u, ↓xsI_u, ↓xrk_u, ↓xrk0_u, ↓xob_v, ↓xmb_v, ↓xth_v, ↓xth_x, ↓jn_u, ↓xlen_u, ↓xaL_u, ↓xsL_u, ↓xbl_0, ↓xbl_1, eq_self, inb_n, inb_d, Sh_PI, Sh_PL, dk_PI, dk_PL, dr_PI, dr_PL, ↓reduceIte, Int32.reduceLE, Int32.reduceLT, Int32.reduceToNatClampNeg, Nat.reduceLT, Nat.reduceLeDiff, Nat.reduceEqDiff, Nat.reduceAdd, Nat.reduceMul, g32, k1, hp, i_nat (show p < 2147483648 by omega), r1 p hp, hc, if_true]
    · rw [if_pos hc]
      refine ⟨hS.1.fr f2 (fun _ q => q), fun q hq => ?_, fun q hq => ?_, fun q hq => ?_, fun q hq => ?_, fun k hk => ?_, ?_, ?_, ?_⟩
      · by_cases e : q = p
        · subst e; rw [di_eq, rset_eq]
        · simp (disch := omega) only [di_ne, rset_ne]; exact r1 q hq
      · simp (disch := omega) only [di_ne, rset_ne]; exact r2 q hq
      · simp (disch := omega) only [di_ne, rset_ne]; exact r3 q hq
      · simp (disch := omega) only [di_ne, rset_ne]; exact r4 q hq
      · simp (disch := omega) only [di_ne, rset_ne]; exact r5 k hk
      · rw [di_ne (by omega), r6]
        exact (who_c fun q hq => by rw [rset_ne (by omega)]).symm
      · simp (disch := omega) only [di_ne, rset_ne]; exact r7
      · simp (disch := omega) only [di_ne, rset_ne]; exact r8
  · refine ⟨M, ?_, fr.refl M, ?_⟩
    · simp -implicitDefEqProofs only [m_X9_grieves, ↓xgI_u, ↓xpI_u, ↓xaI_u, ↓xsI_u, ↓xrk_u, ↓xrk0_u, ↓xob_v, ↓xmb_v, ↓xth_v, ↓xth_x, ↓jn_u, ↓xlen_u, ↓xaL_u, ↓xsL_u, ↓xbl_0, ↓xbl_1, eq_self, inb_n, inb_d, Sh_PI, Sh_PL, dk_PI, dk_PL, dr_PI, dr_PL, ↓reduceIte, Int32.reduceLE, Int32.reduceLT, Int32.reduceToNatClampNeg, Nat.reduceLT, Nat.reduceLeDiff, Nat.reduceEqDiff, Nat.reduceAdd, Nat.reduceMul, g32, k1, hp, i_nat (show p < 2147483648 by omega), r1 p hp, hc, if_false]
    · rw [if_neg hc]; exact hS
def cheS (p : Nat) (r : Nat → Int32) : Nat → Int32 := if r p = 0 then r else rset r p 0
def cheF (p : Nat) (r : Nat → Int32) : Int32 := if r p = 0 then 0 else 1
def pouS (n : Int32) (r : Nat → Int32) : Nat → Int32 := if n ≤ r 77 then rset r 77 (r 77 - n) else r
def pouF (n : Int32) (r : Nat → Int32) : Int32 := if n ≤ r 77 then 1 else 0
def dyeS (T : dvT) (r : Nat → Int32) : Nat → Int32 := if r 78 < 400 then dayS T r else r
def dyeF (r : Nat → Int32) : Int32 := if r 78 < 400 then 1 else 0
theorem c_che2 {p : Nat} {r : Nat → Int32} (hS : cSea b M s (tP T) r) (hT7 : tP T ≤ 7) (hp : p < 7) : ∃ M', m_X9_cheers M s (Int32.ofNat p) = some (cheF p r, M') ∧ fr (sSn s) nz 0 0 M M' ∧ cSea b M' s (tP T) (cheS p r) := by
  obtain ⟨g43, g32, g33, g34, g35, g36⟩ := hS.1.g
  obtain ⟨-, k0, -, -, -, -, -, -, k1, k2, k3, k4, k5⟩ := hS.1
  obtain ⟨r1, r2, r3, r4, r5, r6, r7, r8⟩ := hS.2
  unfold cheF cheS
  by_cases hc : r p = 0
  · refine ⟨M, ?_, fr.refl M, ?_⟩
    · simp -implicitDefEqProofs only [m_X9_cheers, ↓xgI_u, ↓xpI_u, ↓xaI_u, ↓xsI_u, ↓xrk_u, ↓xrk0_u, ↓xob_v, ↓xmb_v, ↓xth_v, ↓xth_x, ↓jn_u, ↓xlen_u, ↓xaL_u, ↓xsL_u, ↓xbl_0, ↓xbl_1, eq_self, inb_n, inb_d, Sh_PI, Sh_PL, dk_PI, dk_PL, dr_PI, dr_PL, ↓reduceIte, Int32.reduceLE, Int32.reduceLT, Int32.reduceToNatClampNeg, Nat.reduceLT, Nat.reduceLeDiff, Nat.reduceEqDiff, Nat.reduceAdd, Nat.reduceMul, g32, k1, hp, i_nat (show p < 2147483648 by omega), r1 p hp, hc, if_true]
    · rw [if_pos hc]; exact hS
  · have f2 := (fr.refl (S := sSn s) (Z := nz) M).pI (a := s + 1) (k := p) 0 (Or.inl (by unfold sSn; omega))
    refine ⟨_, ?_, f2, ?_⟩
    · simp -implicitDefEqProofs only [m_X9_cheers, ↓xgI_u, ↓xpI_u, ↓xaI_u, ↓xsI_u, ↓xrk_u, ↓xrk0_u, ↓xob_v, ↓xmb_v, ↓xth_v, ↓xth_x, ↓jn_u, ↓xlen_u, ↓xaL_u, ↓xsL_u, ↓xbl_0, ↓xbl_1, eq_self, inb_n, inb_d, Sh_PI, Sh_PL, dk_PI, dk_PL, dr_PI, dr_PL, ↓reduceIte, Int32.reduceLE, Int32.reduceLT, Int32.reduceToNatClampNeg, Nat.reduceLT, Nat.reduceLeDiff, Nat.reduceEqDiff, Nat.reduceAdd, Nat.reduceMul, g32, k1, hp, i_nat (show p < 2147483648 by omega), r1 p hp, hc, if_false]
    · rw [if_neg hc]
      refine ⟨hS.1.fr f2 (fun _ q => q), fun q hq => ?_, fun q hq => ?_, fun q hq => ?_, fun q hq => ?_, fun k hk => ?_, ?_, ?_, ?_⟩
      · by_cases e : q = p
        · subst e; rw [di_eq, rset_eq]
        · simp (disch := omega) only [di_ne, rset_ne]; exact r1 q hq
      · simp (disch := omega) only [di_ne, rset_ne]; exact r2 q hq
      · simp (disch := omega) only [di_ne, rset_ne]; exact r3 q hq
      · simp (disch := omega) only [di_ne, rset_ne]; exact r4 q hq
      · simp (disch := omega) only [di_ne, rset_ne]; exact r5 k hk
      · rw [di_ne (by omega), r6]
        exact (who_c fun q hq => by rw [rset_ne (by omega)]).symm
      · simp (disch := omega) only [di_ne, rset_ne]; exact r7
      · simp (disch := omega) only [di_ne, rset_ne]; exact r8
theorem c_pou2 {n : Int32} {r : Nat → Int32} (hS : cSea b M s (tP T) r) (hT7 : tP T ≤ 7) : ∃ M', m_X9_pours M s n = some (pouF n r, M') ∧ fr (sSn s) nz 0 0 M M' ∧ cSea b M' s (tP T) (pouS n r) := by
  obtain ⟨-, k0, -, -, -, -, -, -, k1, k2, k3, k4, k5⟩ := hS.1
  obtain ⟨r1, r2, r3, r4, r5, r6, r7, r8⟩ := hS.2
  unfold pouF pouS
  by_cases hc : n ≤ r 77
  · have f2 := (fr.refl (S := sSn s) (Z := nz) M).pI (a := s) (k := 38) (r 77 - n) (Or.inl (by unfold sSn; omega))
    refine ⟨_, ?_, f2, ?_⟩
    · unfold m_X9_pours
      rw [xgI_u (by rw [k0]; rfl), r7, if_pos hc, xgI_u (by rw [k0]; rfl), r7, xpI_u (by rw [k0]; rfl), if_pos hc]
    · rw [if_pos hc]
      refine ⟨hS.1.fr f2 (fun _ q => q), fun q hq => ?_, fun q hq => ?_, fun q hq => ?_, fun q hq => ?_, fun k hk => ?_, ?_, ?_, ?_⟩
      · simp (disch := omega) only [di_ne, rset_ne]; exact r1 q hq
      · simp (disch := omega) only [di_ne, rset_ne]; exact r2 q hq
      · simp (disch := omega) only [di_ne, rset_ne]; exact r3 q hq
      · simp (disch := omega) only [di_ne, rset_ne]; exact r4 q hq
      · simp (disch := omega) only [di_ne, rset_ne]; exact r5 k hk
      · rw [di_ne (by omega), r6]
        exact (who_c fun q hq => by rw [rset_ne (by omega)]).symm
      · rw [di_eq, rset_eq]
      · simp (disch := omega) only [di_ne, rset_ne]; exact r8
  · refine ⟨M, ?_, fr.refl M, ?_⟩
    · unfold m_X9_pours
      rw [xgI_u (by rw [k0]; rfl), r7, if_neg hc, if_neg hc]
    · rw [if_neg hc]; exact hS
theorem c_day2 {r : Nat → Int32} {d : Nat} (hs : Sh b M) (hT : cTold b w M T) (hS : cSea b M s (tP T) r) (hsep : cSep b w s) (hd : d ≤ 400) (h78 : r 78 = Int32.ofNat d) : ∃ M', m_X9_day M s = some (dyeF r, M') ∧ fr (sSn s) nz 0 0 M M' ∧ cSea b M' s (tP T) (dyeS T r) := by
  obtain ⟨-, k0, -⟩ := hS.1
  have r8 := hS.2.2.2.2.2.2.2.2
  unfold dyeF dyeS
  have e4 : (r 78 < 400) = (d < 400) := by rw [h78, show (400 : Int32) = Int32.ofNat 400 from rfl, i_lt (by omega) (by omega)]
  have e5 : (r 78 = 400) ↔ d = 400 := by rw [h78]; exact i_inj (b := 400) (by omega) (by omega)
  unfold m_X9_day
  rw [xgI_u (by rw [k0]; rfl), r8]
  by_cases hc : d = 400
  · rw [if_pos (e5.mpr hc), if_neg (by rw [e4]; omega), if_neg (by rw [e4]; omega)]
    exact ⟨M, rfl, fr.refl M, hS⟩
  · obtain ⟨M', e, f, h⟩ := c_pass2 hs hT hS hsep
    rw [if_neg (fun z => hc (e5.mp z)), if_pos (by rw [e4]; omega), if_pos (by rw [e4]; omega), xrk_u k0, e, xmb_v]
    exact ⟨M', rfl, f, h⟩
end COMP
