/-! A SEASON copied; years -/
def dwCp (M : dwSt) (a c n : Nat) : dwSt := (M.1, va_up M.2.1 c (va_cpy (dwI M a) (dwI M c) 0 0 n), M.2.2)
theorem dk_Cp (M : dwSt) (a c n : Nat) : dwK (dwCp M a c n) = dwK M := (fun _ => rfl : True → _) trivial
theorem dr_Cp (M : dwSt) (a c n : Nat) : dwR (dwCp M a c n) = dwR M := (fun _ => rfl : True → _) trivial
theorem dl_Cp (M : dwSt) (a c n : Nat) : dwL (dwCp M a c n) = dwL M := (fun _ => rfl : True → _) trivial
theorem di_Cp (M : dwSt) (a c n x k : Nat) : dwI (dwCp M a c n) x k = if x = c then (if k < n then dwI M a k else dwI M c k) else dwI M x k := by
  show va_up (dwI M) c (va_cpy (dwI M a) (dwI M c) 0 0 n) x k = _
  unfold va_up va_cpy
  by_cases e : x = c
  · rw [if_pos e, if_pos e]
    by_cases h : k < n
    · rw [if_pos h, if_pos (by omega), Nat.zero_add, Nat.sub_zero]
    · rw [if_neg h, if_neg (by omega)]
  · rw [if_neg e, if_neg e]
theorem di_Cpn {M : dwSt} {a c n x k : Nat} (h : x ≠ c) : dwI (dwCp M a c n) x k = dwI M x k := by rw [di_Cp, if_neg h]
theorem di_Cpe {M : dwSt} {a c n k : Nat} (h : k < n) : dwI (dwCp M a c n) c k = dwI M a k := by rw [di_Cp, if_pos rfl, if_pos h]
theorem fr.cp {S Z : Nat → Nat → Prop} {cn cu : Nat} {M M' : dwSt} (h : fr S Z cn cu M M') {a c n : Nat} (hs : (∀ k, S c k) ∨ dwN M ≤ c) : fr S Z cn cu M (dwCp M' a c n) :=
  ⟨h.1, h.2.1, h.n, h.nn, h.u, fun _ ha => h.k ha, fun x j hb hj => ⟨by
    rw [di_Cp]
    by_cases e : x = c
    · exfalso
      subst e
      rcases hs with hs | hs
      · exact hj (hs j)
      · omega
    · rw [if_neg e]; exact h.i hb hj, by rw [dl_Cp]; exact h.l hb hj⟩, fun x j hb hj => by rw [dr_Cp]; exact h.r hb hj⟩
theorem xcpy_u {ρ : Type} {M : dwSt} {a c n : Nat} {K : dwSt → Option ρ} (h1 : (dwK M a).1 = 1) (h2 : (dwK M c).1 = 1) (h3 : n ≤ (dwK M a).2) (h4 : n ≤ (dwK M c).2) (hn : n < 2147483648) : xcpy M 1 a 0 c 0 (Int32.ofNat n) K = K (dwCp M a c n) := by
  unfold xcpy
  rw [if_pos ⟨⟨h1, h2⟩, ⟨by decide, by decide, by rw [i_toInt hn]; omega⟩, by rw [i_toInt hn, show (0 : Int32).toInt = 0 from rfl]; omega, by rw [i_toInt hn, show (0 : Int32).toInt = 0 from rfl]; omega, Or.inl rfl⟩]
  rw [i_nat hn]
  rfl
theorem xcpy7 {ρ : Type} {M : dwSt} {a c : Nat} {K : dwSt → Option ρ} (h1 : dwK M a = (1, 7)) (h2 : dwK M c = (1, 7)) : xcpy M 1 a 0 c 0 7 K = K (dwCp M a c 7) := xcpy_u (n := 7) (by rw [h1]) (by rw [h2]) (by rw [h1]; exact Nat.le_refl _) (by rw [h2]; exact Nat.le_refl _) (by omega)
theorem xcpy42 {ρ : Type} {M : dwSt} {a c : Nat} {K : dwSt → Option ρ} (h1 : dwK M a = (1, 42)) (h2 : dwK M c = (1, 42)) : xcpy M 1 a 0 c 0 42 K = K (dwCp M a c 42) := xcpy_u (n := 42) (by rw [h1]) (by rw [h2]) (by rw [h1]; exact Nat.le_refl _) (by rw [h2]; exact Nat.le_refl _) (by omega)
theorem xcpy6 {ρ : Type} {M : dwSt} {a c : Nat} {K : dwSt → Option ρ} (h1 : dwK M a = (1, 6)) (h2 : dwK M c = (1, 6)) : xcpy M 1 a 0 c 0 6 K = K (dwCp M a c 6) := xcpy_u (n := 6) (by rw [h1]) (by rw [h2]) (by rw [h1]; exact Nat.le_refl _) (by rw [h2]; exact Nat.le_refl _) (by omega)
theorem cShp.gg {b s : Nat} {M : dwSt} (h : cShp b M s) : ∀ (M' : dwSt), dwK M' = dwK M → dwR M' = dwR M → (∀ {ρ : Type} (K : Nat → Option ρ), xgR M' 32 s K = K (s + 1)) ∧ (∀ {ρ : Type} (K : Nat → Option ρ), xgR M' 33 s K = K (s + 2)) ∧ (∀ {ρ : Type} (K : Nat → Option ρ), xgR M' 34 s K = K (s + 3)) ∧ (∀ {ρ : Type} (K : Nat → Option ρ), xgR M' 35 s K = K (s + 4)) ∧ (∀ {ρ : Type} (K : Nat → Option ρ), xgR M' 36 s K = K (s + 5)) := by
  intro M' hk hr
  obtain ⟨h0, h1, h2, h3, h4, h5, h6, h7, -⟩ := h
  exact ⟨fun K => xgR_v (by rw [hk, h1]; rfl) (by rw [hr]; exact h3) K, fun K => xgR_v (by rw [hk, h1]; rfl) (by rw [hr]; exact h4) K, fun K => xgR_v (by rw [hk, h1]; rfl) (by rw [hr]; exact h5) K, fun K => xgR_v (by rw [hk, h1]; rfl) (by rw [hr]; exact h6) K, fun K => xgR_v (by rw [hk, h1]; rfl) (by rw [hr]; exact h7) K⟩
theorem c_becomes {b s o n : Nat} {M : dwSt} {r : Nat → Int32} (hs : cShp b M s) (ho : cSea b M o n r) (hd : s + 6 ≤ o ∨ o + 6 ≤ s) : ∃ M', m_X9_becomes M s o = some (s, M') ∧ fr (sSe s) nz 0 0 M M' ∧ cSea b M' s n r := by
  have G1 := fun M' h1 h2 => (@fun {ρ} K => (hs.gg M' h1 h2).1 (ρ := ρ) K : ∀ {ρ : Type} (K : Nat → Option ρ), xgR M' 32 s K = K (s + 1))
  have G2 := fun M' h1 h2 => (@fun {ρ} K => (hs.gg M' h1 h2).2.1 (ρ := ρ) K : ∀ {ρ : Type} (K : Nat → Option ρ), xgR M' 33 s K = K (s + 2))
  have G3 := fun M' h1 h2 => (@fun {ρ} K => (hs.gg M' h1 h2).2.2.1 (ρ := ρ) K : ∀ {ρ : Type} (K : Nat → Option ρ), xgR M' 34 s K = K (s + 3))
  have G4 := fun M' h1 h2 => (@fun {ρ} K => (hs.gg M' h1 h2).2.2.2.1 (ρ := ρ) K : ∀ {ρ : Type} (K : Nat → Option ρ), xgR M' 35 s K = K (s + 4))
  have G5 := fun M' h1 h2 => (@fun {ρ} K => (hs.gg M' h1 h2).2.2.2.2 (ρ := ρ) K : ∀ {ρ : Type} (K : Nat → Option ρ), xgR M' 36 s K = K (s + 5))
  have H1 := fun M' h1 h2 => (@fun {ρ} K => (ho.1.gg M' h1 h2).1 (ρ := ρ) K : ∀ {ρ : Type} (K : Nat → Option ρ), xgR M' 32 o K = K (o + 1))
  have H2 := fun M' h1 h2 => (@fun {ρ} K => (ho.1.gg M' h1 h2).2.1 (ρ := ρ) K : ∀ {ρ : Type} (K : Nat → Option ρ), xgR M' 33 o K = K (o + 2))
  have H3 := fun M' h1 h2 => (@fun {ρ} K => (ho.1.gg M' h1 h2).2.2.1 (ρ := ρ) K : ∀ {ρ : Type} (K : Nat → Option ρ), xgR M' 34 o K = K (o + 3))
  have H4 := fun M' h1 h2 => (@fun {ρ} K => (ho.1.gg M' h1 h2).2.2.2.1 (ρ := ρ) K : ∀ {ρ : Type} (K : Nat → Option ρ), xgR M' 35 o K = K (o + 4))
  have H5 := fun M' h1 h2 => (@fun {ρ} K => (ho.1.gg M' h1 h2).2.2.2.2 (ρ := ρ) K : ∀ {ρ : Type} (K : Nat → Option ρ), xgR M' 36 o K = K (o + 5))
  obtain ⟨a0, a1, -, -, -, -, -, -, a2, a3, a4, a5, a6⟩ := id hs
  obtain ⟨-, b1, -, -, -, -, -, -, b2, b3, b4, b5, b6⟩ := id ho.1
  obtain ⟨r1, r2, r3, r4, r5, r6, r7, r8⟩ := ho.2
  have inS : ∀ i, i ≤ 5 → (∀ k, sSe s (s + i) k) ∨ dwN M ≤ s + i := fun i hi => Or.inl fun k => by unfold sSe; omega
  have inT : ∀ i k, i ≤ 5 → sSe s (s + i) k ∨ dwN M ≤ s + i := fun i k hi => Or.inl (by unfold sSe; omega)
  have f1 := (((((((((fr.refl (S := sSe s) (Z := nz) M).cp (a := o + 1) (c := s + 1) (n := 7) (inS 1 (by omega))).cp (a := o + 2) (c := s + 2) (n := 7) (inS 2 (by omega))).cp (a := o + 3) (c := s + 3) (n := 7) (inS 3 (by omega))).cp (a := o + 4) (c := s + 4) (n := 7) (inS 4 (by omega))).cp (a := o + 5) (c := s + 5) (n := 42) (inS 5 (by omega))).pI (a := s) (k := 37) (dwI M o 37) (inT 0 _ (by omega))).pI (a := s) (k := 38) (dwI M o 38) (inT 0 _ (by omega))).pI (a := s) (k := 39) (dwI M o 39) (inT 0 _ (by omega)))
  refine ⟨_, ?_, f1, hs.fr f1 (fun _ q => q), fun p hp => ?_, fun p hp => ?_, fun p hp => ?_, fun p hp => ?_, fun k hk => ?_, ?_, ?_, ?_⟩
  · simp -implicitDefEqProofs only [m_X9_becomes, ↓xgI_u, ↓xpI_u, ↓xaI_u, ↓xsI_u, ↓xrk_u, ↓xrk0_u, ↓xob_v, ↓xmb_v, ↓xth_v, ↓xth_x, ↓jn_u, ↓xlen_u, ↓xaL_u, ↓xsL_u, ↓xbl_0, ↓xbl_1, eq_self, inb_n, inb_d, Sh_PI, Sh_PL, dk_PI, dk_PL, dr_PI, dr_PL, ↓reduceIte, Int32.reduceLE, Int32.reduceLT, Int32.reduceToNatClampNeg, Nat.reduceLT, Nat.reduceLeDiff, Nat.reduceEqDiff, Nat.reduceAdd, Nat.reduceMul, G1, G2, G3, G4, G5, H1, H2, H3, H4, H5, dk_Cp, dr_Cp, xcpy7, xcpy42, a1, a2, a3, a4, a5, a6, b1, b2, b3, b4, b5, b6, hs2, hw2]
    simp (disch := omega) only [di_ne, di_Cpn]
  · simp (disch := omega) only [di_ne, di_Cpn, di_Cpe]; exact r1 p hp
  · simp (disch := omega) only [di_ne, di_Cpn, di_Cpe]; exact r2 p hp
  · simp (disch := omega) only [di_ne, di_Cpn, di_Cpe]; exact r3 p hp
  · simp (disch := omega) only [di_ne, di_Cpn, di_Cpe]; exact r4 p hp
  · simp (disch := omega) only [di_ne, di_Cpn, di_Cpe]; exact r5 k hk
  · simp (disch := omega) only [di_ne, di_eq]; exact r6
  · simp (disch := omega) only [di_ne, di_eq]; exact r7
  · simp (disch := omega) only [di_eq]; exact r8
theorem cRow_c {M : dwSt} {s n : Nat} {r r' : Nat → Int32} (h : cRow M s n r) (hn : n ≤ 7) (e : ∀ k, k < 79 → r' k = r k) : cRow M s n r' := by
  obtain ⟨r1, r2, r3, r4, r5, r6, r7, r8⟩ := h
  refine ⟨fun p hp => (r1 p hp).trans (e _ (by omega)).symm, fun p hp => (r2 p hp).trans (e _ (by omega)).symm, fun p hp => (r3 p hp).trans (e _ (by omega)).symm, fun p hp => (r4 p hp).trans (e _ (by omega)).symm, fun p hp => (r5 p hp).trans (e _ (by omega)).symm, r6.trans (who_c fun q hq => e _ (by omega)).symm, r7.trans (e _ (by omega)).symm, r8.trans (e _ (by omega)).symm⟩
theorem cp79_e {r z : Nat → Int32} {k : Nat} (h : k < 79) : cp79 r z k = r k := if_pos h
/-! what keeps a row as it may be -/
theorem rowOK_c {T : dvT} {r r' : Nat → Int32} (h : rowOK T r) (hn : tP T ≤ 7) (e : ∀ k, k < 79 → r' k = r k) : rowOK T r' := by
  refine ⟨fun p hp => ?_, ?_⟩
  · rw [e _ (by omega), e _ (by omega)]; exact h.1 p hp
  · rw [e _ (by omega)]; exact h.2
theorem rowD_c {T : dvT} {r r' : Nat → Int32} (h : rowD T r) (hn : tP T ≤ 7) (e : ∀ k, k < 79 → r' k = r k) : rowD T r' := by
  obtain ⟨d, h1, h2⟩ := h.2
  exact ⟨rowOK_c h.1 hn e, d, h1, (e 78 (by omega)).trans h2⟩
section CALL
variable {b : Nat} {w : Nat → Nat} {M : dwSt} {A : dvA}
/-- the probe shows a row -/
theorem c_probe (hC : CInv b w M A) (z : Nat → Int32) : ∃ M', m_X9_becomes M (b + 29) (b + 23) = some (b + 29, M') ∧ fr (sSe (b + 29)) nz 0 0 M M' ∧ cSea b M' (b + 29) (tP (aT A)) (cp79 (aNow A) z) := by
  have hs := hC.1.1
  have hn := shN hs
  have hp : cShp b M (b + 29) := ⟨by omega, kd29 hs, pt29_43 hs, pt29_32 hs, pt29_33 hs, pt29_34 hs, pt29_35 hs, pt29_36 hs, kd30 hs, kd31 hs, kd32 hs, kd33 hs, kd34 hs⟩
  obtain ⟨M', e, f, h⟩ := c_becomes hp hC.1.2.2.2.2.1 (by omega)
  exact ⟨M', e, f, h.1, cRow_c h.2 hC.1.ok.1.1 (fun k hk => cp79_e hk)⟩
theorem sSe_c : ∀ a k, sSe (b + 29) a k → cSc b a k := fun a k q => by unfold sSe at q; unfold cSc; omega
theorem t_trial (hT : TInv b M A) : ∃ M', m_X10_copies M (b + 534) (b + 535) = some ((), M') ∧ fr (sRow (b + 535)) nz 0 0 M M' ∧ dwI M' (b + 535) = cp79 (aNow A) (dwI M (b + 535)) := by
  have hs := hT.1.1
  have hn := shN hs
  obtain ⟨M', e, f, h⟩ := t_copies (kd534 hs) (kd535 hs) (by omega) (by omega) (by omega)
  exact ⟨M', e, f, by rw [h, hT.1.2.2.2.2.1]⟩
theorem sRow_s : ∀ a k, sRow (b + 535) a k → tSc b a k := fun a k q => by unfold sRow at q; unfold tSc; omega
/-! days to come -/
def dayN (T : dvT) (r : Nat → Int32) (n : Nat) : Nat → Int32 := itr (fun _ r => dayS T r) r n
def aheV (T : dvT) (r : Nat → Int32) (y : Int32) : Int32 := if y = 0 then r 77 else if y = 1 then whoS (tP T) r 7 else sumS (tP T) r 7
theorem C_ahead {x y : Int32} (z : Nat → Int32) (hC : CInv b w M A) (hx : inV x 0 99 = 1) (hy : inV y 0 2 = 1) : ∃ M1, m_X1_ahead M b x y = some (.inl (aheV (aT A) (dayN (aT A) (cp79 (aNow A) z) x.toNatClampNeg) y), M1) ∧ fr (cSc b) nz 0 0 M M1 := by
  obtain ⟨n, hn, rfl⟩ := inV_n (n := 99) (by omega) hx
  rw [i_nat (by omega)]
  have hs := hC.1.1
  obtain ⟨M0, e0, f0, h0⟩ := c_probe hC z
  have need : m_X1_need M b 1 = some (.inl (), M) := c_need1 rfl
  simp -implicitDefEqProofs only [m_X1_ahead, ↓gp0_2, ↓gp0_3, ↓gp0_4, ↓gp0_5, ↓gp0_6, ↓gp0_7, ↓gp0_8, ↓gp0_9, ↓gp0_10, ↓gp0_18, ↓gp0_19, ↓gp0_20, ↓gp0_22, ↓gp23_43, ↓gp23_32, ↓gp23_33, ↓gp23_34, ↓gp23_35, ↓gp23_36, ↓gp29_43, ↓gp29_32, ↓gp29_33, ↓gp29_34, ↓gp29_35, ↓gp29_36, ↓gp54_53, ↓gp54_54, ↓gp54_55, ↓gp54_56, ↓gp54_57, ↓gp54_58, ↓gp54_59, ↓gp54_60, ↓gp54_61, ↓gp54_62, ↓gp54_65, ↓gp54_66, ↓gp54_67, ↓gp54_68, ↓gp54_69, ↓gp54_70, ↓gp54_71, ↓gp54_73, ↓gp54_74, ↓gp54_75, ↓gp54_76, ↓gp54_84, ↓gp54_85, ↓gp54_87, ↓gp54_88, ↓xr59, kr59, ↓xr67, kr67, ↓xr75, kr75, ↓xr82, kr82, ↓xr89, kr89, ↓xr102, kr102, ↓xr115, kr115, ↓xr276, kr276, ↓xr437, kr437, ↓xr444, kr444, ↓xr453, kr453, ↓xr536, kr536, ↓xr553, kr553, hs0, hw0, hs1, hw1, hs2, hw2, hs3, hw3, hs4, hw4, hs5, hw5, hs6, hw6, hs7, hw7, hs8, hw8, hs9, hw9, hs10, hw10, hs11, hw11, hs12, hw12, hs13, hw13, hs14, hw14, hs15, hw15, hs16, hw16, hs17, hw17, hs18, hw18, hs19, hw19, hs20, hw20, hs21, hw21, hs22, hw22, hs23, hw23, hs25, hw25, hs26, hw26, hs27, hw27, hs28, hw28, hs9b, hw9b, hs10b, hw10b, kd0, kd20, kd21, kd22, kd23, kd24, kd25, kd26, kd27, kd28, kd29, kd30, kd31, kd32, kd33, kd34, kd35, kd36, kd37, kd38, kd39, kd40, kd41, kd42, kd54, kd55, kd56, kd57, kd58, kd59, kd67, kd75, kd82, kd89, kd102, kd115, kd276, kd437, kd444, kd451, kd452, kd453, kd534, kd535, kd536, kd553, kd557, kd558, kd559, kd560, kd561, ↓xgI_u, ↓xpI_u, ↓xaI_u, ↓xsI_u, ↓xrk_u, ↓xrk0_u, ↓xob_v, ↓xmb_v, ↓xth_v, ↓xth_x, ↓jn_u, ↓xlen_u, ↓xaL_u, ↓xsL_u, ↓xbl_0, ↓xbl_1, eq_self, inb_n, inb_d, Sh_PI, Sh_PL, dk_PI, dk_PL, dr_PI, dr_PL, ↓reduceIte, Int32.reduceLE, Int32.reduceLT, Int32.reduceToNatClampNeg, Nat.reduceLT, Nat.reduceLeDiff, Nat.reduceEqDiff, Nat.reduceAdd, Nat.reduceMul, hs, c_isIn, hx, hy, e10, need, e0]
  refine lpx (E := fun x => ∃ M1, x = some (.inl (aheV (aT A) (dayN (aT A) (cp79 (aNow A) z) n) y), M1) ∧ fr (cSc b) nz 0 0 M M1) (fun f i (M1 : dwSt) => L_X1_ahead_43 (Int32.ofNat n) y (b + 29) (fun (M10 : dwSt) => (if y = 0 then xgI M10 38 (b + 29) (fun v15 => some (.inl v15, M10)) else if y = 1 then xgR M10 33 (b + 29) (fun v13 => xrk M10 (b + 29) 2 (xob (m_X9_some M10 (b + 29) v13) (fun v14 => some (.inl v14, M10)))) else xgR M10 33 (b + 29) (fun v11 => xrk M10 (b + 29) 2 (xob (m_X9_sum M10 (b + 29) v11) (fun v12 => some (.inl v12, M10)))) : dwR9 Int32)) f (Int32.ofNat i) M1) n (fun i M1 => fr (sSe (b + 29)) nz 0 0 M M1 ∧ cSea b M1 (b + 29) (tP (aT A)) (dayN (aT A) (cp79 (aNow A) z) i)) ?_ ?_ 1000000 0 M0 (by omega) (by omega) ⟨f0, h0⟩
  · intro f M1 ⟨hf, hr⟩
    have hf2 : fr (cSc b) nz 0 0 M M1 := hf.mono sSe_c (fun _ _ q => q) (Nat.le_refl _) (Nat.le_refl _)
    have c1 := cinv_s hC hf2
    have w7 := c_some (o := 7) c1.1.1 c1.1.2.1 hr.1 (kd31 c1.1.1) hr.2.2.1
    have s7 := c_sum (o := 7) c1.1.1 c1.1.2.1 hr.1 (kd31 c1.1.1) hr.2.2.1
    refine ⟨M1, ?_, hf2⟩
    simp -implicitDefEqProofs only [L_X1_ahead_43, i_geT, if_true]
    unfold aheV
    by_cases h0 : y = 0
    · simp only [h0, if_true, ↓gp0_2, ↓gp0_3, ↓gp0_4, ↓gp0_5, ↓gp0_6, ↓gp0_7, ↓gp0_8, ↓gp0_9, ↓gp0_10, ↓gp0_18, ↓gp0_19, ↓gp0_20, ↓gp0_22, ↓gp23_43, ↓gp23_32, ↓gp23_33, ↓gp23_34, ↓gp23_35, ↓gp23_36, ↓gp29_43, ↓gp29_32, ↓gp29_33, ↓gp29_34, ↓gp29_35, ↓gp29_36, ↓gp54_53, ↓gp54_54, ↓gp54_55, ↓gp54_56, ↓gp54_57, ↓gp54_58, ↓gp54_59, ↓gp54_60, ↓gp54_61, ↓gp54_62, ↓gp54_65, ↓gp54_66, ↓gp54_67, ↓gp54_68, ↓gp54_69, ↓gp54_70, ↓gp54_71, ↓gp54_73, ↓gp54_74, ↓gp54_75, ↓gp54_76, ↓gp54_84, ↓gp54_85, ↓gp54_87, ↓gp54_88, ↓xr59, kr59, ↓xr67, kr67, ↓xr75, kr75, ↓xr82, kr82, ↓xr89, kr89, ↓xr102, kr102, ↓xr115, kr115, ↓xr276, kr276, ↓xr437, kr437, ↓xr444, kr444, ↓xr453, kr453, ↓xr536, kr536, ↓xr553, kr553, hs0, hw0, hs1, hw1, hs2, hw2, hs3, hw3, hs4, hw4, hs5, hw5, hs6, hw6, hs7, hw7, hs8, hw8, hs9, hw9, hs10, hw10, hs11, hw11, hs12, hw12, hs13, hw13, hs14, hw14, hs15, hw15, hs16, hw16, hs17, hw17, hs18, hw18, hs19, hw19, hs20, hw20, hs21, hw21, hs22, hw22, hs23, hw23, hs25, hw25, hs26, hw26, hs27, hw27, hs28, hw28, hs9b, hw9b, hs10b, hw10b, kd0, kd20, kd21, kd22, kd23, kd24, kd25, kd26, kd27, kd28, kd29, kd30, kd31, kd32, kd33, kd34, kd35, kd36, kd37, kd38, kd39, kd40, kd41, kd42, kd54, kd55, kd56, kd57, kd58, kd59, kd67, kd75, kd82, kd89, kd102, kd115, kd276, kd437, kd444, kd451, kd452, kd453, kd534, kd535, kd536, kd553, kd557, kd558, kd559, kd560, kd561, ↓xgI_u, ↓xpI_u, ↓xaI_u, ↓xsI_u, ↓xrk_u, ↓xrk0_u, ↓xob_v, ↓xmb_v, ↓xth_v, ↓xth_x, ↓jn_u, ↓xlen_u, ↓xaL_u, ↓xsL_u, ↓xbl_0, ↓xbl_1, eq_self, inb_n, inb_d, Sh_PI, Sh_PL, dk_PI, dk_PL, dr_PI, dr_PL, ↓reduceIte, Int32.reduceLE, Int32.reduceLT, Int32.reduceToNatClampNeg, Nat.reduceLT, Nat.reduceLeDiff, Nat.reduceEqDiff, Nat.reduceAdd, Nat.reduceMul, c1.1.1, hr.2.2.2.2.2.2.2.1]
    · by_cases h1 : y = 1
      · simp only [h0, h1, if_true, if_false, ↓gp0_2, ↓gp0_3, ↓gp0_4, ↓gp0_5, ↓gp0_6, ↓gp0_7, ↓gp0_8, ↓gp0_9, ↓gp0_10, ↓gp0_18, ↓gp0_19, ↓gp0_20, ↓gp0_22, ↓gp23_43, ↓gp23_32, ↓gp23_33, ↓gp23_34, ↓gp23_35, ↓gp23_36, ↓gp29_43, ↓gp29_32, ↓gp29_33, ↓gp29_34, ↓gp29_35, ↓gp29_36, ↓gp54_53, ↓gp54_54, ↓gp54_55, ↓gp54_56, ↓gp54_57, ↓gp54_58, ↓gp54_59, ↓gp54_60, ↓gp54_61, ↓gp54_62, ↓gp54_65, ↓gp54_66, ↓gp54_67, ↓gp54_68, ↓gp54_69, ↓gp54_70, ↓gp54_71, ↓gp54_73, ↓gp54_74, ↓gp54_75, ↓gp54_76, ↓gp54_84, ↓gp54_85, ↓gp54_87, ↓gp54_88, ↓xr59, kr59, ↓xr67, kr67, ↓xr75, kr75, ↓xr82, kr82, ↓xr89, kr89, ↓xr102, kr102, ↓xr115, kr115, ↓xr276, kr276, ↓xr437, kr437, ↓xr444, kr444, ↓xr453, kr453, ↓xr536, kr536, ↓xr553, kr553, hs0, hw0, hs1, hw1, hs2, hw2, hs3, hw3, hs4, hw4, hs5, hw5, hs6, hw6, hs7, hw7, hs8, hw8, hs9, hw9, hs10, hw10, hs11, hw11, hs12, hw12, hs13, hw13, hs14, hw14, hs15, hw15, hs16, hw16, hs17, hw17, hs18, hw18, hs19, hw19, hs20, hw20, hs21, hw21, hs22, hw22, hs23, hw23, hs25, hw25, hs26, hw26, hs27, hw27, hs28, hw28, hs9b, hw9b, hs10b, hw10b, kd0, kd20, kd21, kd22, kd23, kd24, kd25, kd26, kd27, kd28, kd29, kd30, kd31, kd32, kd33, kd34, kd35, kd36, kd37, kd38, kd39, kd40, kd41, kd42, kd54, kd55, kd56, kd57, kd58, kd59, kd67, kd75, kd82, kd89, kd102, kd115, kd276, kd437, kd444, kd451, kd452, kd453, kd534, kd535, kd536, kd553, kd557, kd558, kd559, kd560, kd561, ↓xgI_u, ↓xpI_u, ↓xaI_u, ↓xsI_u, ↓xrk_u, ↓xrk0_u, ↓xob_v, ↓xmb_v, ↓xth_v, ↓xth_x, ↓jn_u, ↓xlen_u, ↓xaL_u, ↓xsL_u, ↓xbl_0, ↓xbl_1, eq_self, inb_n, inb_d, Sh_PI, Sh_PL, dk_PI, dk_PL, dr_PI, dr_PL, ↓reduceIte, Int32.reduceLE, Int32.reduceLT, Int32.reduceToNatClampNeg, Nat.reduceLT, Nat.reduceLeDiff, Nat.reduceEqDiff, Nat.reduceAdd, Nat.reduceMul, c1.1.1, w7, e10]
      · simp only [h0, h1, if_false, ↓gp0_2, ↓gp0_3, ↓gp0_4, ↓gp0_5, ↓gp0_6, ↓gp0_7, ↓gp0_8, ↓gp0_9, ↓gp0_10, ↓gp0_18, ↓gp0_19, ↓gp0_20, ↓gp0_22, ↓gp23_43, ↓gp23_32, ↓gp23_33, ↓gp23_34, ↓gp23_35, ↓gp23_36, ↓gp29_43, ↓gp29_32, ↓gp29_33, ↓gp29_34, ↓gp29_35, ↓gp29_36, ↓gp54_53, ↓gp54_54, ↓gp54_55, ↓gp54_56, ↓gp54_57, ↓gp54_58, ↓gp54_59, ↓gp54_60, ↓gp54_61, ↓gp54_62, ↓gp54_65, ↓gp54_66, ↓gp54_67, ↓gp54_68, ↓gp54_69, ↓gp54_70, ↓gp54_71, ↓gp54_73, ↓gp54_74, ↓gp54_75, ↓gp54_76, ↓gp54_84, ↓gp54_85, ↓gp54_87, ↓gp54_88, ↓xr59, kr59, ↓xr67, kr67, ↓xr75, kr75, ↓xr82, kr82, ↓xr89, kr89, ↓xr102, kr102, ↓xr115, kr115, ↓xr276, kr276, ↓xr437, kr437, ↓xr444, kr444, ↓xr453, kr453, ↓xr536, kr536, ↓xr553, kr553, hs0, hw0, hs1, hw1, hs2, hw2, hs3, hw3, hs4, hw4, hs5, hw5, hs6, hw6, hs7, hw7, hs8, hw8, hs9, hw9, hs10, hw10, hs11, hw11, hs12, hw12, hs13, hw13, hs14, hw14, hs15, hw15, hs16, hw16, hs17, hw17, hs18, hw18, hs19, hw19, hs20, hw20, hs21, hw21, hs22, hw22, hs23, hw23, hs25, hw25, hs26, hw26, hs27, hw27, hs28, hw28, hs9b, hw9b, hs10b, hw10b, kd0, kd20, kd21, kd22, kd23, kd24, kd25, kd26, kd27, kd28, kd29, kd30, kd31, kd32, kd33, kd34, kd35, kd36, kd37, kd38, kd39, kd40, kd41, kd42, kd54, kd55, kd56, kd57, kd58, kd59, kd67, kd75, kd82, kd89, kd102, kd115, kd276, kd437, kd444, kd451, kd452, kd453, kd534, kd535, kd536, kd553, kd557, kd558, kd559, kd560, kd561, ↓xgI_u, ↓xpI_u, ↓xaI_u, ↓xsI_u, ↓xrk_u, ↓xrk0_u, ↓xob_v, ↓xmb_v, ↓xth_v, ↓xth_x, ↓jn_u, ↓xlen_u, ↓xaL_u, ↓xsL_u, ↓xbl_0, ↓xbl_1, eq_self, inb_n, inb_d, Sh_PI, Sh_PL, dk_PI, dk_PL, dr_PI, dr_PL, ↓reduceIte, Int32.reduceLE, Int32.reduceLT, Int32.reduceToNatClampNeg, Nat.reduceLT, Nat.reduceLeDiff, Nat.reduceEqDiff, Nat.reduceAdd, Nat.reduceMul, c1.1.1, s7]
  · intro f i M1 hi ⟨hf, hr⟩ hnx
    have hf2 : fr (cSc b) nz 0 0 M M1 := hf.mono sSe_c (fun _ _ q => q) (Nat.le_refl _) (Nat.le_refl _)
    have c1 := cinv_s hC hf2
    obtain ⟨M2, u, f2, h2⟩ := c_passes c1.1.1 c1.1.2.1 hr (w := w) sep_probe
    show ∃ M3, L_X1_ahead_43 (Int32.ofNat n) y (b + 29) _ (f + 1) (Int32.ofNat i) M1 = _ ∧ _
    simp -implicitDefEqProofs only [L_X1_ahead_43, i_geF hi (by omega), if_false, ↓xgI_u, ↓xpI_u, ↓xaI_u, ↓xsI_u, ↓xrk_u, ↓xrk0_u, ↓xob_v, ↓xmb_v, ↓xth_v, ↓xth_x, ↓jn_u, ↓xlen_u, ↓xaL_u, ↓xsL_u, ↓xbl_0, ↓xbl_1, eq_self, inb_n, inb_d, Sh_PI, Sh_PL, dk_PI, dk_PL, dr_PI, dr_PL, ↓reduceIte, Int32.reduceLE, Int32.reduceLT, Int32.reduceToNatClampNeg, Nat.reduceLT, Nat.reduceLeDiff, Nat.reduceEqDiff, Nat.reduceAdd, Nat.reduceMul, kd29 c1.1.1, u, i_succ]
    exact hnx M2 ⟨hf.t0 f2, h2⟩
theorem T_ahead {x y : Int32} {z : Nat → Int32} (hT : TInv b M A) (hz : dwI M (b + 535) = z) (hx : inV x 0 99 = 1) (hy : inV y 0 2 = 1) : ∃ M2, m_X10_ahead M (b + 54) x y = some (aheV (aT A) (dayN (aT A) (cp79 (aNow A) z) x.toNatClampNeg) y, M2) ∧ fr (tSc b) nz 0 0 (dwPI M (b + 54) 44 0) M2 := by
  obtain ⟨n, hn100, rfl⟩ := inV_n (n := 99) (by omega) hx
  rw [i_nat (by omega)]
  obtain ⟨hT0, fz, z0⟩ := tinv_z hT
  have hs0 := hT0.1.1
  obtain ⟨M0, e0, f0, h0⟩ := t_trial hT0
  rw [di_off (by omega), hz] at h0
  simp -implicitDefEqProofs only [m_X10_ahead, ↓gp0_2, ↓gp0_3, ↓gp0_4, ↓gp0_5, ↓gp0_6, ↓gp0_7, ↓gp0_8, ↓gp0_9, ↓gp0_10, ↓gp0_18, ↓gp0_19, ↓gp0_20, ↓gp0_22, ↓gp23_43, ↓gp23_32, ↓gp23_33, ↓gp23_34, ↓gp23_35, ↓gp23_36, ↓gp29_43, ↓gp29_32, ↓gp29_33, ↓gp29_34, ↓gp29_35, ↓gp29_36, ↓gp54_53, ↓gp54_54, ↓gp54_55, ↓gp54_56, ↓gp54_57, ↓gp54_58, ↓gp54_59, ↓gp54_60, ↓gp54_61, ↓gp54_62, ↓gp54_65, ↓gp54_66, ↓gp54_67, ↓gp54_68, ↓gp54_69, ↓gp54_70, ↓gp54_71, ↓gp54_73, ↓gp54_74, ↓gp54_75, ↓gp54_76, ↓gp54_84, ↓gp54_85, ↓gp54_87, ↓gp54_88, ↓xr59, kr59, ↓xr67, kr67, ↓xr75, kr75, ↓xr82, kr82, ↓xr89, kr89, ↓xr102, kr102, ↓xr115, kr115, ↓xr276, kr276, ↓xr437, kr437, ↓xr444, kr444, ↓xr453, kr453, ↓xr536, kr536, ↓xr553, kr553, hs0, hw0, hs1, hw1, hs2, hw2, hs3, hw3, hs4, hw4, hs5, hw5, hs6, hw6, hs7, hw7, hs8, hw8, hs9, hw9, hs10, hw10, hs11, hw11, hs12, hw12, hs13, hw13, hs14, hw14, hs15, hw15, hs16, hw16, hs17, hw17, hs18, hw18, hs19, hw19, hs20, hw20, hs21, hw21, hs22, hw22, hs23, hw23, hs25, hw25, hs26, hw26, hs27, hw27, hs28, hw28, hs9b, hw9b, hs10b, hw10b, kd0, kd20, kd21, kd22, kd23, kd24, kd25, kd26, kd27, kd28, kd29, kd30, kd31, kd32, kd33, kd34, kd35, kd36, kd37, kd38, kd39, kd40, kd41, kd42, kd54, kd55, kd56, kd57, kd58, kd59, kd67, kd75, kd82, kd89, kd102, kd115, kd276, kd437, kd444, kd451, kd452, kd453, kd534, kd535, kd536, kd553, kd557, kd558, kd559, kd560, kd561, ↓xgI_u, ↓xpI_u, ↓xaI_u, ↓xsI_u, ↓xrk_u, ↓xrk0_u, ↓xob_v, ↓xmb_v, ↓xth_v, ↓xth_x, ↓jn_u, ↓xlen_u, ↓xaL_u, ↓xsL_u, ↓xbl_0, ↓xbl_1, eq_self, inb_n, inb_d, Sh_PI, Sh_PL, dk_PI, dk_PL, dr_PI, dr_PL, ↓reduceIte, Int32.reduceLE, Int32.reduceLT, Int32.reduceToNatClampNeg, Nat.reduceLT, Nat.reduceLeDiff, Nat.reduceEqDiff, Nat.reduceAdd, Nat.reduceMul, hT.1.1, t_in, hx, hy, e10, t_bad0 hs0 z0, e0]
  refine lpx (E := fun x => ∃ M1, x = some (aheV (aT A) (dayN (aT A) (cp79 (aNow A) z) n) y, M1) ∧ fr (tSc b) nz 0 0 (dwPI M (b + 54) 44 0) M1) (fun f i (M1 : dwSt) => L_X10_ahead_53 (b + 54) (Int32.ofNat n) y (fun (M11 : dwSt) => if y = 0 then xgR M11 74 (b + 54) (fun v16 => xaI M11 v16 77 (fun v17 => some (v17, M11))) else if y = 1 then xgR M11 74 (b + 54) (fun v14 => xrk M11 (b + 54) 3 (xob (m_X10_whoHas M11 (b + 54) v14 7) (fun v15 => some (v15, M11)))) else xgR M11 74 (b + 54) (fun v12 => xrk M11 (b + 54) 3 (xob (m_X10_sumOf M11 (b + 54) v12 7) (fun v13 => some (v13, M11))))) f (Int32.ofNat i) M1) n (fun i M1 => fr (sRow (b + 535)) nz 0 0 (dwPI M (b + 54) 44 0) M1 ∧ dwI M1 (b + 535) = dayN (aT A) (cp79 (aNow A) z) i) ?_ ?_ 1000000 0 M0 (by omega) (by omega) ⟨f0, h0⟩
  · intro f M1 ⟨hf, hr⟩
    have hf2 : fr (tSc b) nz 0 0 (dwPI M (b + 54) 44 0) M1 := hf.mono sRow_s (fun _ _ q => q) (Nat.le_refl _) (Nat.le_refl _)
    have c1 := tinv_s hT0 hf2
    have w7 : m_X10_whoHas M1 (b + 54) (b + 535) 7 = _ := t_whoHas (o := 7) c1.1.1 c1.1.2.1 (kd535 c1.1.1) (by omega)
    have s7 : m_X10_sumOf M1 (b + 54) (b + 535) 7 = _ := t_sumOf (o := 7) c1.1.1 c1.1.2.1 (kd535 c1.1.1) (by omega)
    rw [hr] at w7 s7
    refine ⟨M1, ?_, hf2⟩
    simp -implicitDefEqProofs only [L_X10_ahead_53, i_geT, if_true]
    unfold aheV
    by_cases h0 : y = 0
    · simp only [h0, if_true, ↓gp0_2, ↓gp0_3, ↓gp0_4, ↓gp0_5, ↓gp0_6, ↓gp0_7, ↓gp0_8, ↓gp0_9, ↓gp0_10, ↓gp0_18, ↓gp0_19, ↓gp0_20, ↓gp0_22, ↓gp23_43, ↓gp23_32, ↓gp23_33, ↓gp23_34, ↓gp23_35, ↓gp23_36, ↓gp29_43, ↓gp29_32, ↓gp29_33, ↓gp29_34, ↓gp29_35, ↓gp29_36, ↓gp54_53, ↓gp54_54, ↓gp54_55, ↓gp54_56, ↓gp54_57, ↓gp54_58, ↓gp54_59, ↓gp54_60, ↓gp54_61, ↓gp54_62, ↓gp54_65, ↓gp54_66, ↓gp54_67, ↓gp54_68, ↓gp54_69, ↓gp54_70, ↓gp54_71, ↓gp54_73, ↓gp54_74, ↓gp54_75, ↓gp54_76, ↓gp54_84, ↓gp54_85, ↓gp54_87, ↓gp54_88, ↓xr59, kr59, ↓xr67, kr67, ↓xr75, kr75, ↓xr82, kr82, ↓xr89, kr89, ↓xr102, kr102, ↓xr115, kr115, ↓xr276, kr276, ↓xr437, kr437, ↓xr444, kr444, ↓xr453, kr453, ↓xr536, kr536, ↓xr553, kr553, hs0, hw0, hs1, hw1, hs2, hw2, hs3, hw3, hs4, hw4, hs5, hw5, hs6, hw6, hs7, hw7, hs8, hw8, hs9, hw9, hs10, hw10, hs11, hw11, hs12, hw12, hs13, hw13, hs14, hw14, hs15, hw15, hs16, hw16, hs17, hw17, hs18, hw18, hs19, hw19, hs20, hw20, hs21, hw21, hs22, hw22, hs23, hw23, hs25, hw25, hs26, hw26, hs27, hw27, hs28, hw28, hs9b, hw9b, hs10b, hw10b, kd0, kd20, kd21, kd22, kd23, kd24, kd25, kd26, kd27, kd28, kd29, kd30, kd31, kd32, kd33, kd34, kd35, kd36, kd37, kd38, kd39, kd40, kd41, kd42, kd54, kd55, kd56, kd57, kd58, kd59, kd67, kd75, kd82, kd89, kd102, kd115, kd276, kd437, kd444, kd451, kd452, kd453, kd534, kd535, kd536, kd553, kd557, kd558, kd559, kd560, kd561, ↓xgI_u, ↓xpI_u, ↓xaI_u, ↓xsI_u, ↓xrk_u, ↓xrk0_u, ↓xob_v, ↓xmb_v, ↓xth_v, ↓xth_x, ↓jn_u, ↓xlen_u, ↓xaL_u, ↓xsL_u, ↓xbl_0, ↓xbl_1, eq_self, inb_n, inb_d, Sh_PI, Sh_PL, dk_PI, dk_PL, dr_PI, dr_PL, ↓reduceIte, Int32.reduceLE, Int32.reduceLT, Int32.reduceToNatClampNeg, Nat.reduceLT, Nat.reduceLeDiff, Nat.reduceEqDiff, Nat.reduceAdd, Nat.reduceMul, c1.1.1, hr]
    · by_cases h1 : y = 1
      · simp only [h0, h1, if_true, if_false, ↓gp0_2, ↓gp0_3, ↓gp0_4, ↓gp0_5, ↓gp0_6, ↓gp0_7, ↓gp0_8, ↓gp0_9, ↓gp0_10, ↓gp0_18, ↓gp0_19, ↓gp0_20, ↓gp0_22, ↓gp23_43, ↓gp23_32, ↓gp23_33, ↓gp23_34, ↓gp23_35, ↓gp23_36, ↓gp29_43, ↓gp29_32, ↓gp29_33, ↓gp29_34, ↓gp29_35, ↓gp29_36, ↓gp54_53, ↓gp54_54, ↓gp54_55, ↓gp54_56, ↓gp54_57, ↓gp54_58, ↓gp54_59, ↓gp54_60, ↓gp54_61, ↓gp54_62, ↓gp54_65, ↓gp54_66, ↓gp54_67, ↓gp54_68, ↓gp54_69, ↓gp54_70, ↓gp54_71, ↓gp54_73, ↓gp54_74, ↓gp54_75, ↓gp54_76, ↓gp54_84, ↓gp54_85, ↓gp54_87, ↓gp54_88, ↓xr59, kr59, ↓xr67, kr67, ↓xr75, kr75, ↓xr82, kr82, ↓xr89, kr89, ↓xr102, kr102, ↓xr115, kr115, ↓xr276, kr276, ↓xr437, kr437, ↓xr444, kr444, ↓xr453, kr453, ↓xr536, kr536, ↓xr553, kr553, hs0, hw0, hs1, hw1, hs2, hw2, hs3, hw3, hs4, hw4, hs5, hw5, hs6, hw6, hs7, hw7, hs8, hw8, hs9, hw9, hs10, hw10, hs11, hw11, hs12, hw12, hs13, hw13, hs14, hw14, hs15, hw15, hs16, hw16, hs17, hw17, hs18, hw18, hs19, hw19, hs20, hw20, hs21, hw21, hs22, hw22, hs23, hw23, hs25, hw25, hs26, hw26, hs27, hw27, hs28, hw28, hs9b, hw9b, hs10b, hw10b, kd0, kd20, kd21, kd22, kd23, kd24, kd25, kd26, kd27, kd28, kd29, kd30, kd31, kd32, kd33, kd34, kd35, kd36, kd37, kd38, kd39, kd40, kd41, kd42, kd54, kd55, kd56, kd57, kd58, kd59, kd67, kd75, kd82, kd89, kd102, kd115, kd276, kd437, kd444, kd451, kd452, kd453, kd534, kd535, kd536, kd553, kd557, kd558, kd559, kd560, kd561, ↓xgI_u, ↓xpI_u, ↓xaI_u, ↓xsI_u, ↓xrk_u, ↓xrk0_u, ↓xob_v, ↓xmb_v, ↓xth_v, ↓xth_x, ↓jn_u, ↓xlen_u, ↓xaL_u, ↓xsL_u, ↓xbl_0, ↓xbl_1, eq_self, inb_n, inb_d, Sh_PI, Sh_PL, dk_PI, dk_PL, dr_PI, dr_PL, ↓reduceIte, Int32.reduceLE, Int32.reduceLT, Int32.reduceToNatClampNeg, Nat.reduceLT, Nat.reduceLeDiff, Nat.reduceEqDiff, Nat.reduceAdd, Nat.reduceMul, c1.1.1, w7, e10]
      · simp only [h0, h1, if_false, ↓gp0_2, ↓gp0_3, ↓gp0_4, ↓gp0_5, ↓gp0_6, ↓gp0_7, ↓gp0_8, ↓gp0_9, ↓gp0_10, ↓gp0_18, ↓gp0_19, ↓gp0_20, ↓gp0_22, ↓gp23_43, ↓gp23_32, ↓gp23_33, ↓gp23_34, ↓gp23_35, ↓gp23_36, ↓gp29_43, ↓gp29_32, ↓gp29_33, ↓gp29_34, ↓gp29_35, ↓gp29_36, ↓gp54_53, ↓gp54_54, ↓gp54_55, ↓gp54_56, ↓gp54_57, ↓gp54_58, ↓gp54_59, ↓gp54_60, ↓gp54_61, ↓gp54_62, ↓gp54_65, ↓gp54_66, ↓gp54_67, ↓gp54_68, ↓gp54_69, ↓gp54_70, ↓gp54_71, ↓gp54_73, ↓gp54_74, ↓gp54_75, ↓gp54_76, ↓gp54_84, ↓gp54_85, ↓gp54_87, ↓gp54_88, ↓xr59, kr59, ↓xr67, kr67, ↓xr75, kr75, ↓xr82, kr82, ↓xr89, kr89, ↓xr102, kr102, ↓xr115, kr115, ↓xr276, kr276, ↓xr437, kr437, ↓xr444, kr444, ↓xr453, kr453, ↓xr536, kr536, ↓xr553, kr553, hs0, hw0, hs1, hw1, hs2, hw2, hs3, hw3, hs4, hw4, hs5, hw5, hs6, hw6, hs7, hw7, hs8, hw8, hs9, hw9, hs10, hw10, hs11, hw11, hs12, hw12, hs13, hw13, hs14, hw14, hs15, hw15, hs16, hw16, hs17, hw17, hs18, hw18, hs19, hw19, hs20, hw20, hs21, hw21, hs22, hw22, hs23, hw23, hs25, hw25, hs26, hw26, hs27, hw27, hs28, hw28, hs9b, hw9b, hs10b, hw10b, kd0, kd20, kd21, kd22, kd23, kd24, kd25, kd26, kd27, kd28, kd29, kd30, kd31, kd32, kd33, kd34, kd35, kd36, kd37, kd38, kd39, kd40, kd41, kd42, kd54, kd55, kd56, kd57, kd58, kd59, kd67, kd75, kd82, kd89, kd102, kd115, kd276, kd437, kd444, kd451, kd452, kd453, kd534, kd535, kd536, kd553, kd557, kd558, kd559, kd560, kd561, ↓xgI_u, ↓xpI_u, ↓xaI_u, ↓xsI_u, ↓xrk_u, ↓xrk0_u, ↓xob_v, ↓xmb_v, ↓xth_v, ↓xth_x, ↓jn_u, ↓xlen_u, ↓xaL_u, ↓xsL_u, ↓xbl_0, ↓xbl_1, eq_self, inb_n, inb_d, Sh_PI, Sh_PL, dk_PI, dk_PL, dr_PI, dr_PL, ↓reduceIte, Int32.reduceLE, Int32.reduceLT, Int32.reduceToNatClampNeg, Nat.reduceLT, Nat.reduceLeDiff, Nat.reduceEqDiff, Nat.reduceAdd, Nat.reduceMul, c1.1.1, s7]
  · intro f i M1 hi ⟨hf, hr⟩ hnx
    have hf2 : fr (tSc b) nz 0 0 (dwPI M (b + 54) 44 0) M1 := hf.mono sRow_s (fun _ _ q => q) (Nat.le_refl _) (Nat.le_refl _)
    have c1 := tinv_s hT0 hf2
    obtain ⟨M2, u, f2, h2⟩ := t_dayEnds (a := b + 535) c1.1.1 c1.1.2.1 (Or.inr rfl)
    show ∃ M3, L_X10_ahead_53 (b + 54) (Int32.ofNat n) y _ (f + 1) (Int32.ofNat i) M1 = _ ∧ _
    simp -implicitDefEqProofs only [L_X10_ahead_53, i_geF hi (by omega), if_false, ↓gp0_2, ↓gp0_3, ↓gp0_4, ↓gp0_5, ↓gp0_6, ↓gp0_7, ↓gp0_8, ↓gp0_9, ↓gp0_10, ↓gp0_18, ↓gp0_19, ↓gp0_20, ↓gp0_22, ↓gp23_43, ↓gp23_32, ↓gp23_33, ↓gp23_34, ↓gp23_35, ↓gp23_36, ↓gp29_43, ↓gp29_32, ↓gp29_33, ↓gp29_34, ↓gp29_35, ↓gp29_36, ↓gp54_53, ↓gp54_54, ↓gp54_55, ↓gp54_56, ↓gp54_57, ↓gp54_58, ↓gp54_59, ↓gp54_60, ↓gp54_61, ↓gp54_62, ↓gp54_65, ↓gp54_66, ↓gp54_67, ↓gp54_68, ↓gp54_69, ↓gp54_70, ↓gp54_71, ↓gp54_73, ↓gp54_74, ↓gp54_75, ↓gp54_76, ↓gp54_84, ↓gp54_85, ↓gp54_87, ↓gp54_88, ↓xr59, kr59, ↓xr67, kr67, ↓xr75, kr75, ↓xr82, kr82, ↓xr89, kr89, ↓xr102, kr102, ↓xr115, kr115, ↓xr276, kr276, ↓xr437, kr437, ↓xr444, kr444, ↓xr453, kr453, ↓xr536, kr536, ↓xr553, kr553, hs0, hw0, hs1, hw1, hs2, hw2, hs3, hw3, hs4, hw4, hs5, hw5, hs6, hw6, hs7, hw7, hs8, hw8, hs9, hw9, hs10, hw10, hs11, hw11, hs12, hw12, hs13, hw13, hs14, hw14, hs15, hw15, hs16, hw16, hs17, hw17, hs18, hw18, hs19, hw19, hs20, hw20, hs21, hw21, hs22, hw22, hs23, hw23, hs25, hw25, hs26, hw26, hs27, hw27, hs28, hw28, hs9b, hw9b, hs10b, hw10b, kd0, kd20, kd21, kd22, kd23, kd24, kd25, kd26, kd27, kd28, kd29, kd30, kd31, kd32, kd33, kd34, kd35, kd36, kd37, kd38, kd39, kd40, kd41, kd42, kd54, kd55, kd56, kd57, kd58, kd59, kd67, kd75, kd82, kd89, kd102, kd115, kd276, kd437, kd444, kd451, kd452, kd453, kd534, kd535, kd536, kd553, kd557, kd558, kd559, kd560, kd561, ↓xgI_u, ↓xpI_u, ↓xaI_u, ↓xsI_u, ↓xrk_u, ↓xrk0_u, ↓xob_v, ↓xmb_v, ↓xth_v, ↓xth_x, ↓jn_u, ↓xlen_u, ↓xaL_u, ↓xsL_u, ↓xbl_0, ↓xbl_1, eq_self, inb_n, inb_d, Sh_PI, Sh_PL, dk_PI, dk_PL, dr_PI, dr_PL, ↓reduceIte, Int32.reduceLE, Int32.reduceLT, Int32.reduceToNatClampNeg, Nat.reduceLT, Nat.reduceLeDiff, Nat.reduceEqDiff, Nat.reduceAdd, Nat.reduceMul, c1.1.1, u, i_succ]
    exact hnx M2 ⟨hf.t0 f2, by rw [h2, hr]; rfl⟩
end CALL
