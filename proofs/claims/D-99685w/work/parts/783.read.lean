/-! A LAW read: the component's sums, whole -/
section LAW
variable {b : Nat} {w : Nat → Nat} {M : dwSt} {A : dvA} {ρ : Type} {N L : Nat}
theorem c_smMk {q x y : Nat} {v8 : Int32} {t1 t2 : tmT} {k : Nat} {J : Nat → dwSt → Option ρ} {M0 : dwSt} (h : lw b M0 A N L k q) (hv : v8 = sgC (xbN A) L q) (hp : ¬ smO (xbN A) L q = -1) (hN : N < dwN M) (h1 : ∀ f, tmr N M f t1.2.2 x (t1.2.1 f)) (h2 : ∀ f, tmr N M f t2.2.2 y (t2.2.1 f)) (hR : room M 1 2) : ∃ M2, (if (if v8 = 43 then (1 : Int32) else 0) = 0 then xnew M 11 (fun o17 M18 => xmb (m_X5_init M18 o17 x y) (fun _ M20 => J o17 M20)) else xnew M 19 (fun o21 M22 => xmb (m_X21_init M22 o21 x y) (fun _ M24 => J o21 M24))) = J (dwN M) M2 ∧ fr nz nz 1 2 M M2 ∧ ∀ f, tmr N M2 f (opT (smO (xbN A) L q) t1 t2).2.2 (dwN M) ((opT (smO (xbN A) L q) t1 t2).2.1 f) := by
  have s43 : (sgC (xbN A) L q = 43) ↔ (q < L ∧ xbN A q = 43) := lw_eq (c := 43) h (by omega) (by omega)
  unfold smO at *
  by_cases c1 : q < L ∧ xbN A q = 43
  · rw [if_pos (hv.trans (s43.mpr c1)), if_pos c1, if_neg (show ¬ (1 : Int32) = 0 by decide)]
    exact c_mkO (o := 2) (ci := 19) (ini := m_X21_init) (fun _ _ _ _ => rfl) (by unfold opC; decide) hN h1 h2 hR
  · rw [if_neg (fun z => c1 (s43.mp (hv.symm.trans z))), if_neg c1, if_pos rfl]
    rw [if_neg c1] at hp
    by_cases c2 : q < L ∧ xbN A q = 45
    · rw [if_pos c2]
      exact c_mkO (o := 3) (ci := 11) (ini := m_X5_init) (fun _ _ _ _ => rfl) (by unfold opC; decide) hN h1 h2 hR
    · rw [if_neg c2] at hp; exact absurd rfl hp
theorem c_smNo {rec : dwSt → Nat → dwR9 Nat} {k p n x : Nat} {K : Nat → dwSt → Option ρ} {kx : Nat → Nat → dwSt → Option ρ} (h : lw b M A N L k p) (hp : smO (xbN A) L (blS (xbN A) L p) = -1) : ∃ M2, L_X16_sum_5 rec kx N K (n + 1) x M = K x M2 ∧ fr (sLc N) nz 0 0 M M2 ∧ lw b M2 A N L k (blS (xbN A) L p) := by
  have hk := h.1.2.1.2.2.2.1
  obtain ⟨M2, e2, f2, l2⟩ := lw_sg h
  obtain ⟨M3, e3, f3, l3⟩ := lw_sg2 l2
  have hk2 := l2.1.2.1.2.2.2.1
  have s43 : (sgC (xbN A) L (blS (xbN A) L p) = 43) ↔ (blS (xbN A) L p < L ∧ xbN A (blS (xbN A) L p) = 43) := lw_eq (c := 43) l2 (by omega) (by omega)
  have s45 : (sgC (xbN A) L (blS (xbN A) L p) = 45) ↔ (blS (xbN A) L p < L ∧ xbN A (blS (xbN A) L p) = 45) := lw_eq (c := 45) l2 (by omega) (by omega)
  refine ⟨M3, ?_, f2.t0 f3, l3⟩
  generalize blS (xbN A) L p = q at *
  unfold smO at hp
  by_cases c1 : q < L ∧ xbN A q = 43
  · rw [if_pos c1] at hp; exact absurd hp (by decide)
  rw [if_neg c1] at hp
  by_cases c2 : q < L ∧ xbN A q = 45
  · rw [if_pos c2] at hp; exact absurd hp (by decide)
  rw [L_X16_sum_5, xrk_u hk, e2, xmb_v, jn_u, if_neg (fun z => c1 (s43.mp z)), xrk_u hk2, e3, xmb_v, if_neg (fun z => c2 (s45.mp z))]
theorem c_smGo {rec : dwSt → Nat → dwR9 Nat} {k p n x : Nat} {K : Nat → dwSt → Option ρ} {kx : Nat → Nat → dwSt → Option ρ} (h : lw b M A N L k p) (hp : ¬ smO (xbN A) L (blS (xbN A) L p) = -1) : ∃ M2, L_X16_sum_5 rec kx N K (n + 1) x M = xth (F_X16_product rec M2 N) (fun v13 M14 => (if (if sgC (xbN A) L (blS (xbN A) L p) = 43 then (1 : Int32) else 0) = 0 then xnew M14 11 (fun o17 M18 => xmb (m_X5_init M18 o17 x v13) (fun _ M20 => L_X16_sum_5 rec kx N K n o17 M20)) else xnew M14 19 (fun o21 M22 => xmb (m_X21_init M22 o21 x v13) (fun _ M24 => L_X16_sum_5 rec kx N K n o21 M24)))) kx ∧ fr (sLc N) nz 0 0 M M2 ∧ lw b M2 A N L k (blS (xbN A) L p + 1) := by
  have hk := h.1.2.1.2.2.2.1
  obtain ⟨M2, e2, f2, l2⟩ := lw_sg h
  have hk2 := l2.1.2.1.2.2.2.1
  have s43 : (sgC (xbN A) L (blS (xbN A) L p) = 43) ↔ (blS (xbN A) L p < L ∧ xbN A (blS (xbN A) L p) = 43) := lw_eq (c := 43) l2 (by omega) (by omega)
  have s45 : (sgC (xbN A) L (blS (xbN A) L p) = 45) ↔ (blS (xbN A) L p < L ∧ xbN A (blS (xbN A) L p) = 45) := lw_eq (c := 45) l2 (by omega) (by omega)
  have hlt := (smO_lt hp).1
  have go : ∀ M7, lw b M7 A N L k (blS (xbN A) L p) → fr (sLc N) nz 0 0 M M7 → ∃ M2, xrk M7 N 8 (xmb (m_X11_sign M7 N) (fun v8 M9 => jn (fun (y10 : Int32) => xgI M9 92 N (fun v11 => xpI M9 92 N (v11 + 1) (fun M12 => xrk M12 N 8 (xth (F_X16_product rec M12 N) (fun v13 M14 => jn (fun (y15 : Nat) (M16 : dwSt) => L_X16_sum_5 rec kx N K n y15 M16) (fun j78 => if y10 = 0 then xnew M14 11 (fun o17 M18 => xmb (m_X5_init M18 o17 x v13) (fun _ M20 => j78 o17 M20)) else xnew M14 19 (fun o21 M22 => xmb (m_X21_init M22 o21 x v13) (fun _ M24 => j78 o21 M24)))) kx)))) (fun j37 => if v8 = 43 then j37 1 else j37 0))) = xth (F_X16_product rec M2 N) (fun v13 M14 => (if (if sgC (xbN A) L (blS (xbN A) L p) = 43 then (1 : Int32) else 0) = 0 then xnew M14 11 (fun o17 M18 => xmb (m_X5_init M18 o17 x v13) (fun _ M20 => L_X16_sum_5 rec kx N K n o17 M20)) else xnew M14 19 (fun o21 M22 => xmb (m_X21_init M22 o21 x v13) (fun _ M24 => L_X16_sum_5 rec kx N K n o21 M24)))) kx ∧ fr (sLc N) nz 0 0 M M2 ∧ lw b M2 A N L k (blS (xbN A) L p + 1) := by
    intro M7 l7 f7
    have hk7 := l7.1.2.1.2.2.2.1
    obtain ⟨M9, e9, f9, l9⟩ := lw_sg2 l7
    rw [xrk_u hk7, e9, xmb_v]
    obtain ⟨M11, e11, f11, l11⟩ := lw_pass l9 hlt (fun M12 => xrk M12 N 8 (xth (F_X16_product rec M12 N) (fun v13 M14 => jn (fun (y15 : Nat) (M16 : dwSt) => L_X16_sum_5 rec kx N K n y15 M16) (fun j78 => if (if sgC (xbN A) L (blS (xbN A) L p) = 43 then (1 : Int32) else 0) = 0 then xnew M14 11 (fun o17 M18 => xmb (m_X5_init M18 o17 x v13) (fun _ M20 => j78 o17 M20)) else xnew M14 19 (fun o21 M22 => xmb (m_X21_init M22 o21 x v13) (fun _ M24 => j78 o21 M24)))) kx))
    have hk11 := l11.1.2.1.2.2.2.1
    refine ⟨M11, ?_, (f7.t0 f9).t0 f11, l11⟩
    rw [xrk_u hk11] at e11
    rw [jn_u]
    by_cases c : sgC (xbN A) L (blS (xbN A) L p) = 43
    · rw [if_pos c]; rw [if_pos c] at e11 ⊢; exact e11
    · rw [if_neg c]; rw [if_neg c] at e11 ⊢; exact e11
  have hp' := hp
  unfold smO at hp'
  rw [L_X16_sum_5, xrk_u hk, e2, xmb_v, jn_u]
  by_cases c1 : blS (xbN A) L p < L ∧ xbN A (blS (xbN A) L p) = 43
  · rw [if_pos (s43.mpr c1)]
    exact go M2 l2 f2
  rw [if_neg c1] at hp'
  obtain ⟨M3, e3, f3, l3⟩ := lw_sg2 l2
  rw [if_neg (fun z => c1 (s43.mp z)), xrk_u hk2, e3, xmb_v]
  by_cases c2 : blS (xbN A) L p < L ∧ xbN A (blS (xbN A) L p) = 45
  · rw [if_pos (s45.mpr c2)]
    exact go M3 l3 (f2.t0 f3)
  · rw [if_neg c2] at hp'; exact absurd rfl hp'
theorem c_smF {recS : Nat → rsL} {rec : dwSt → Nat → dwR9 Nat} {k : Nat} (hr : hRec b A N L k recS rec) (hL : L < 900000) : ∀ n F p M x t, L - p ≤ n → n < F → lw b M A N L k p → lroom M L p → (∀ f, tmr N M f t.2.2 x (t.2.1 f)) → cLz b A N L k p M (smF (xbN A) L recS k n t p) (L_X16_sum_5 rec (KX Nat) N (fun y M => some (.inl y, M)) F x M) := by
  have no : ∀ F p M x t, lw b M A N L k p → (∀ f, tmr N M f t.2.2 x (t.2.1 f)) → smO (xbN A) L (blS (xbN A) L p) = -1 → cLz b A N L k p M (.inl (t, blS (xbN A) L p)) (L_X16_sum_5 rec (KX Nat) N (fun y M => some (.inl y, M)) (F + 1) x M) := fun F p M x t h ht hp => by
    obtain ⟨M2, e2, f2, l2⟩ := c_smNo (rec := rec) (n := F) (x := x) (K := fun y M => (some (.inl y, M) : dwR9 Nat)) (kx := KX Nat) h hp
    obtain ⟨g1, g2⟩ := blS_le (X := xbN A) (L := L) _ p rfl
    exact ⟨M2, x, e2, f2.mono (fun _ _ z => z) (fun _ _ z => z) (by omega) (by omega), l2, ⟨g1, g2 h.1.2.2.2.1⟩, fun f => tmr_fr f2 frT_c frT_z _ _ _ (ht f)⟩
  intro n
  induction n with
  | zero =>
    intro F p M x t h1 h2 h hR ht
    obtain ⟨F, rfl⟩ : ∃ F', F = F' + 1 := ⟨F - 1, by omega⟩
    obtain ⟨g1, g2⟩ := blS_le (X := xbN A) (L := L) _ p rfl
    exact no F p M x t h ht (by by_cases c : smO (xbN A) L (blS (xbN A) L p) = -1; exact c; have := (smO_lt c).1; omega)
  | succ n ih =>
    intro F p M x t h1 h2 h hR ht
    obtain ⟨F, rfl⟩ : ∃ F', F = F' + 1 := ⟨F - 1, by omega⟩
    obtain ⟨g1, g2⟩ := blS_le (X := xbN A) (L := L) _ p rfl
    have g2 := g2 h.1.2.2.2.1
    rw [smF]
    by_cases c : smO (xbN A) L (blS (xbN A) L p) = -1
    · rw [if_pos c]; exact no F p M x t h ht c
    · rw [if_neg c]
      obtain ⟨o1, o2⟩ := smO_lt c
      obtain ⟨M2, e2, f2, l2⟩ := c_smGo (rec := rec) (n := F) (x := x) (K := fun y M => (some (.inl y, M) : dwR9 Nat)) (kx := KX Nat) h c
      have hR2 : lroom M2 L (blS (xbN A) L p + 1) := lroom_fr hR f2 (by omega) (by omega) (by omega)
      have r := c_prod hr hL l2 hR2
      rw [e2]
      cases hu : prG (xbN A) L recS k (blS (xbN A) L p + 1) with
      | inr e =>
        rw [hu] at r
        exact cLz_bad f2 sLc_N nz_N (bdC.th r) (by omega) (by omega)
      | inl u =>
        rw [hu] at r
        obtain ⟨M3, a, e3, f3, l3, ⟨p3, p3'⟩, t3⟩ := r
        have F3 := f2.trans f3
        have hn3 := F3.n
        have hN := h.1.2.1.1
        have hR3 : room M3 (1 + (5 * (L - u.2) + 5)) (2 + (36 * (L - u.2) + 42)) := by
          unfold lroom at hR
          exact (hR.le (n' := (0 + 5 * (u.2 - (blS (xbN A) L p + 1))) + (1 + (5 * (L - u.2) + 5))) (u' := (0 + 36 * (u.2 - (blS (xbN A) L p + 1))) + (2 + (36 * (L - u.2) + 42))) (by omega) (by omega)).fr F3
        obtain ⟨M9, -, -, lq⟩ := lw_sg h
        obtain ⟨M4, e4, f4, t4⟩ := c_smMk (J := fun o M => L_X16_sum_5 rec (KX Nat) N (fun y M => (some (.inl y, M) : dwR9 Nat)) F o M) lq rfl c (by omega) (fun f => tmr_fr f3 frT_c frT_z _ _ _ (tmr_fr f2 frT_c frT_z _ _ _ (ht f))) t3 (hR3.le (by omega) (by omega))
        have l4 := lw_z l3 f4
        have hR4 : lroom M4 L u.2 := hR3.fr f4
        rw [e3, xth_v, e4]
        have F4 := F3.trans (f4.mono (S' := sLc N) (Z' := nz) (fun _ _ z => False.elim z) (fun _ _ z => z) (Nat.le_refl _) (Nat.le_refl _))
        exact cLz_pre F4 ⟨by omega, p3'⟩ (by omega) (by omega) (ih F u.2 M4 (dwN M3) _ (by omega) (by omega) l4 hR4 t4)
theorem c_smX {recS : Nat → rsL} {rec : dwSt → Nat → dwR9 Nat} {k p : Nat} (hr : hRec b A N L k recS rec) (hL : L < 900000) (h : lw b M A N L k p) (hR : lroom M L p) : cLz b A N L k p M (smG (xbN A) L recS k p) (F_X16_sum rec M N) := by
  have hk := h.1.2.1.2.2.2.1
  have r := c_prod hr hL h hR
  unfold F_X16_sum smG
  rw [xrk_u hk]
  cases hu : prG (xbN A) L recS k p with
  | inr e => rw [hu] at r; exact bdC.th r
  | inl u =>
    rw [hu] at r
    obtain ⟨M3, a, e3, f3, l3, ⟨p3, p3'⟩, t3⟩ := r
    rw [e3, xth_v, jn_u]
    exact cLz_pre f3 ⟨p3, p3'⟩ (Nat.le_refl _) (Nat.le_refl _) (c_smF hr hL L 1000000 u.2 M3 a u.1 (by omega) (by omega) l3 (lroom_fr hR f3 ⟨p3, p3'⟩ (Nat.le_refl _) (Nat.le_refl _)) t3)
/-- a sum, whatever may still be opened -/
theorem c_smS (hL : L < 900000) : ∀ k d, k < d → ∀ p M, lw b M A N L k p → lroom M L p → cLz b A N L k p M (smS (xbN A) L k p) (m_X16_sum d M N) := by
  intro k
  induction k with
  | zero =>
    intro d hd p M h hR
    obtain ⟨d, rfl⟩ : ∃ d', d = d' + 1 := ⟨d - 1, by omega⟩
    exact c_smX (recS := fun _ => .inr (1, 0)) (rec := m_X16_sum d) (fun k' p M e => absurd e (by omega)) hL h hR
  | succ k ih =>
    intro d hd p M h hR
    obtain ⟨d, rfl⟩ : ∃ d', d = d' + 1 := ⟨d - 1, by omega⟩
    exact c_smX (recS := smS (xbN A) L k) (rec := m_X16_sum d) (fun k' p1 M1 e hp h1 hR1 => by
      have ek : k' = k := by omega
      subst ek
      exact ih d (by omega) p1 M1 h1 hR1) hL h hR
/-- a law, whole -/
def lwS (X : Nat → Nat) (L : Nat) : tmT ⊕ (Nat × Nat) := match smS X L 6 0 with
  | .inl u => if L ≤ blS X L u.2 then .inl u.1 else .inr (1, blS X L u.2)
  | .inr e => .inr e
theorem c_reads (hL : L < 900000) (h : lw b M A N L 6 0) (hR : room M (5 * L + 6) (36 * L + 50)) : match lwS (xbN A) L with
    | .inl t => ∃ M2 a, m_X16_reads M N = some (.inl a, M2) ∧ fr (sLc N) nz (5 * L + 6) (36 * L + 50) M M2 ∧ lw b M2 A N L 6 L ∧ ∀ f, tmr N M2 f t.2.2 a (t.2.1 f)
    | .inr e => bdC N (5 * L + 6) (36 * L + 50) M e (m_X16_reads M N) := by
  have hk := h.1.2.1.2.2.2.1
  have r := c_smS hL 6 40 (by omega) 0 M h (by unfold lroom; exact hR.le (by omega) (by omega))
  unfold m_X16_reads lwS
  rw [xrk_u hk]
  cases hu : smS (xbN A) L 6 0 with
  | inr e => rw [hu] at r; exact (bdC.th r).le (by omega) (by omega)
  | inl u =>
    rw [hu] at r
    obtain ⟨M2, a, e2, f2, l2, ⟨-, p2⟩, t2⟩ := r
    have hk2 := l2.1.2.1.2.2.2.1
    obtain ⟨M3, e3, f3, l3⟩ := lw_sg l2
    have hk3 := l3.1.2.1.2.2.2.1
    have F3 := f2.t0 f3
    have n3 := F3.n
    have hN := h.1.2.1.1
    obtain ⟨g1, g2⟩ := blS_le (X := xbN A) (L := L) _ u.2 rfl
    have g2 := g2 p2
    have hx := l3.1.1.2.1
    have hLx := l3.1.2.2.2.2
    have i91 := l3.1.2.1.2.2.2.2.2
    have hR3 : room M3 1 8 := (hR.le (n' := 5 * (u.2 - 0) + 1) (u' := 36 * (u.2 - 0) + 8) (by omega) (by omega)).fr F3
    rw [e2, xth_v, xrk_u hk2, e3, xmb_v, xgI_u (by rw [hk3]; rfl), l3.1.2.2.1, xgI_u (by rw [hk3]; rfl), i91]
    dsimp only
    by_cases c : L ≤ blS (xbN A) L u.2
    · rw [if_pos (show Int32.ofNat L ≤ Int32.ofNat (blS (xbN A) L u.2) by rw [i_le (by omega) (by omega)]; exact c), if_pos c]
      have eL : blS (xbN A) L u.2 = L := by omega
      rw [eL] at l3
      exact ⟨M3, a, rfl, F3.mono (fun _ _ z => z) (fun _ _ z => z) (by omega) (by omega), l3, fun f => tmr_fr f3 frT_c frT_z _ _ _ (t2 f)⟩
    · rw [if_neg (show ¬ Int32.ofNat L ≤ Int32.ofNat (blS (xbN A) L u.2) by rw [i_le (by omega) (by omega)]; exact c), if_neg c, xrk_u hk3]
      exact (bdC.pre (c_badw (α := Nat) (N := N) (by omega) l3.1.2.1 l3.1.2.2.1 hR3) F3 sLc_N nz_N).le (by omega) (by omega)
end LAW
