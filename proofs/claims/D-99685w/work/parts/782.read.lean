/-! A LAW read: the component's products and sums -/
section LAW
variable {b : Nat} {w : Nat → Nat} {M : dwSt} {A : dvA} {ρ : Type} {N L : Nat}
theorem lw_sg {k p : Nat} (h : lw b M A N L k p) : ∃ M2, m_X11_sign M N = some (sgC (xbN A) L (blS (xbN A) L p), M2) ∧ fr (sLc N) nz 0 0 M M2 ∧ lw b M2 A N L k (blS (xbN A) L p) := by
  obtain ⟨M2, e, f, l⟩ := lw_sign h
  exact ⟨M2, e, f.mono sPo_c (fun _ _ z => z) (Nat.le_refl _) (Nat.le_refl _), l⟩
theorem lw_sg2 {k p : Nat} (h : lw b M A N L k (blS (xbN A) L p)) : ∃ M2, m_X11_sign M N = some (sgC (xbN A) L (blS (xbN A) L p), M2) ∧ fr (sLc N) nz 0 0 M M2 ∧ lw b M2 A N L k (blS (xbN A) L p) := by
  have r := lw_sg h
  rw [blS_bl] at r
  exact r
theorem lw_eq {k q c : Nat} (h : lw b M A N L k q) (c1 : 0 < c) (c2 : c < 128) : (sgC (xbN A) L q = Int32.ofNat c) ↔ (q < L ∧ xbN A q = c) := sgC_eq (X := xbN A) (L := L) (q := q) (c := c) (h.1.lt _) (by omega) (by omega)
/-- a sign passed -/
theorem lw_pass {k q : Nat} (h : lw b M A N L k q) (hq : q < L) : ∀ {σ : Type} (K : dwSt → Option σ), ∃ M2, xgI M 92 N (fun v10 => xpI M 92 N (v10 + 1) K) = K M2 ∧ fr (sLc N) nz 0 0 M M2 ∧ lw b M2 A N L k (q + 1) := by
  intro σ K
  have hk := h.1.2.1.2.2.2.1
  have hb := h.1.2.1.2.1
  have f1 : fr (sPo N) nz 0 0 M (dwPI M N 92 (Int32.ofNat (q + 1))) := (fr.refl M).pI _ (Or.inl ⟨rfl, rfl⟩)
  have c1 := h.1.to f1 (fun a k z => ⟨z.1, by have := z.2; omega⟩) di_eq hq
  refine ⟨_, ?_, f1.mono sPo_c (fun _ _ z => z) (Nat.le_refl _) (Nat.le_refl _), lw_po h f1 c1⟩
  rw [xgI_u (by rw [hk]; rfl), h.1.2.2.1, show (1 : Int32) = Int32.ofNat 1 from rfl, i_add, xpI_u (by rw [hk]; rfl)]
theorem c_prMk {q x y : Nat} {v8 : Int32} {t1 t2 : tmT} {k : Nat} {J : Nat → dwSt → Option ρ} {M0 : dwSt} (h : lw b M0 A N L k q) (hv : v8 = sgC (xbN A) L q) (hp : ¬ prO (xbN A) L q = -1) (hN : N < dwN M) (h1 : ∀ f, tmr N M f t1.2.2 x (t1.2.1 f)) (h2 : ∀ f, tmr N M f t2.2.2 y (t2.2.1 f)) (hR : room M 1 2) : ∃ M2, (if v8 = 42 then xnew M 13 (fun o24 M25 => xmb (m_X7_init M25 o24 x y) (fun _ M27 => J o24 M27)) else if v8 = 47 then xnew M 17 (fun o20 M21 => xmb (m_X19_init M21 o20 x y) (fun _ M23 => J o20 M23)) else xnew M 18 (fun o16 M17 => xmb (m_X20_init M17 o16 x y) (fun _ M19 => J o16 M19))) = J (dwN M) M2 ∧ fr nz nz 1 2 M M2 ∧ ∀ f, tmr N M2 f (opT (prO (xbN A) L q) t1 t2).2.2 (dwN M) ((opT (prO (xbN A) L q) t1 t2).2.1 f) := by
  have s42 : (sgC (xbN A) L q = 42) ↔ (q < L ∧ xbN A q = 42) := lw_eq (c := 42) h (by omega) (by omega)
  have s47 : (sgC (xbN A) L q = 47) ↔ (q < L ∧ xbN A q = 47) := lw_eq (c := 47) h (by omega) (by omega)
  unfold prO at *
  by_cases c1 : q < L ∧ xbN A q = 42
  · rw [if_pos (hv.trans (s42.mpr c1)), if_pos c1]
    exact c_mkO (o := 4) (ci := 13) (ini := m_X7_init) (fun _ _ _ _ => rfl) (by unfold opC; decide) hN h1 h2 hR
  · rw [if_neg (fun z => c1 (s42.mp (hv.symm.trans z))), if_neg c1]
    rw [if_neg c1] at hp
    by_cases c2 : q < L ∧ xbN A q = 47
    · rw [if_pos (hv.trans (s47.mpr c2)), if_pos c2]
      exact c_mkO (o := 5) (ci := 17) (ini := m_X19_init) (fun _ _ _ _ => rfl) (by unfold opC; decide) hN h1 h2 hR
    · rw [if_neg (fun z => c2 (s47.mp (hv.symm.trans z))), if_neg c2]
      rw [if_neg c2] at hp
      by_cases c3 : q < L ∧ xbN A q = 37
      · rw [if_pos c3]
        exact c_mkO (o := 6) (ci := 18) (ini := m_X20_init) (fun _ _ _ _ => rfl) (by unfold opC; decide) hN h1 h2 hR
      · rw [if_neg c3] at hp; exact absurd rfl hp
theorem c_prNo {rec : dwSt → Nat → dwR9 Nat} {k p n x : Nat} {K : Nat → dwSt → Option ρ} {kx : Nat → Nat → dwSt → Option ρ} (h : lw b M A N L k p) (hp : prO (xbN A) L (blS (xbN A) L p) = -1) : ∃ M2, L_X16_product_5 rec kx N K (n + 1) x M = K x M2 ∧ fr (sLc N) nz 0 0 M M2 ∧ lw b M2 A N L k (blS (xbN A) L p) := by
  have hk := h.1.2.1.2.2.2.1
  obtain ⟨M2, e2, f2, l2⟩ := lw_sg h
  obtain ⟨M3, e3, f3, l3⟩ := lw_sg2 l2
  obtain ⟨M4, e4, f4, l4⟩ := lw_sg2 l3
  have hk2 := l2.1.2.1.2.2.2.1
  have hk3 := l3.1.2.1.2.2.2.1
  have s42 : (sgC (xbN A) L (blS (xbN A) L p) = 42) ↔ (blS (xbN A) L p < L ∧ xbN A (blS (xbN A) L p) = 42) := lw_eq (c := 42) l2 (by omega) (by omega)
  have s47 : (sgC (xbN A) L (blS (xbN A) L p) = 47) ↔ (blS (xbN A) L p < L ∧ xbN A (blS (xbN A) L p) = 47) := lw_eq (c := 47) l2 (by omega) (by omega)
  have s37 : (sgC (xbN A) L (blS (xbN A) L p) = 37) ↔ (blS (xbN A) L p < L ∧ xbN A (blS (xbN A) L p) = 37) := lw_eq (c := 37) l2 (by omega) (by omega)
  refine ⟨M4, ?_, (f2.t0 f3).t0 f4, l4⟩
  generalize blS (xbN A) L p = q at *
  unfold prO at hp
  by_cases c1 : q < L ∧ xbN A q = 42
  · rw [if_pos c1] at hp; exact absurd hp (by decide)
  rw [if_neg c1] at hp
  by_cases c2 : q < L ∧ xbN A q = 47
  · rw [if_pos c2] at hp; exact absurd hp (by decide)
  rw [if_neg c2] at hp
  by_cases c3 : q < L ∧ xbN A q = 37
  · rw [if_pos c3] at hp; exact absurd hp (by decide)
  rw [L_X16_product_5, xrk_u hk, e2, xmb_v, jn_u, if_neg (fun z => c1 (s42.mp z)), xrk_u hk2, e3, xmb_v, if_neg (fun z => c2 (s47.mp z)), xrk_u hk3, e4, xmb_v, if_neg (fun z => c3 (s37.mp z))]
theorem c_prGo {rec : dwSt → Nat → dwR9 Nat} {k p n x : Nat} {K : Nat → dwSt → Option ρ} {kx : Nat → Nat → dwSt → Option ρ} (h : lw b M A N L k p) (hp : ¬ prO (xbN A) L (blS (xbN A) L p) = -1) : ∃ M2, L_X16_product_5 rec kx N K (n + 1) x M = xth (F_X16_unit rec M2 N) (fun v12 M13 => (if sgC (xbN A) L (blS (xbN A) L p) = 42 then xnew M13 13 (fun o24 M25 => xmb (m_X7_init M25 o24 x v12) (fun _ M27 => L_X16_product_5 rec kx N K n o24 M27)) else if sgC (xbN A) L (blS (xbN A) L p) = 47 then xnew M13 17 (fun o20 M21 => xmb (m_X19_init M21 o20 x v12) (fun _ M23 => L_X16_product_5 rec kx N K n o20 M23)) else xnew M13 18 (fun o16 M17 => xmb (m_X20_init M17 o16 x v12) (fun _ M19 => L_X16_product_5 rec kx N K n o16 M19)))) kx ∧ fr (sLc N) nz 0 0 M M2 ∧ lw b M2 A N L k (blS (xbN A) L p + 1) := by
  have hk := h.1.2.1.2.2.2.1
  obtain ⟨M2, e2, f2, l2⟩ := lw_sg h
  have hk2 := l2.1.2.1.2.2.2.1
  have s42 : (sgC (xbN A) L (blS (xbN A) L p) = 42) ↔ (blS (xbN A) L p < L ∧ xbN A (blS (xbN A) L p) = 42) := lw_eq (c := 42) l2 (by omega) (by omega)
  have s47 : (sgC (xbN A) L (blS (xbN A) L p) = 47) ↔ (blS (xbN A) L p < L ∧ xbN A (blS (xbN A) L p) = 47) := lw_eq (c := 47) l2 (by omega) (by omega)
  have s37 : (sgC (xbN A) L (blS (xbN A) L p) = 37) ↔ (blS (xbN A) L p < L ∧ xbN A (blS (xbN A) L p) = 37) := lw_eq (c := 37) l2 (by omega) (by omega)
  have hlt := (prO_lt hp).1
  -- the rest, from any store that stands at the sign
  have go : ∀ M6, lw b M6 A N L k (blS (xbN A) L p) → fr (sLc N) nz 0 0 M M6 → ∃ M2, xrk M6 N 8 (xmb (m_X11_sign M6 N) (fun v8 M9 => xgI M9 92 N (fun v10 => xpI M9 92 N (v10 + 1) (fun M11 => xrk M11 N 8 (xth (F_X16_unit rec M11 N) (fun v12 M13 => jn (fun (y14 : Nat) (M15 : dwSt) => L_X16_product_5 rec kx N K n y14 M15) (fun j97 => if v8 = 42 then xnew M13 13 (fun o24 M25 => xmb (m_X7_init M25 o24 x v12) (fun _ M27 => j97 o24 M27)) else if v8 = 47 then xnew M13 17 (fun o20 M21 => xmb (m_X19_init M21 o20 x v12) (fun _ M23 => j97 o20 M23)) else xnew M13 18 (fun o16 M17 => xmb (m_X20_init M17 o16 x v12) (fun _ M19 => j97 o16 M19)))) kx))))) = xth (F_X16_unit rec M2 N) (fun v12 M13 => (if sgC (xbN A) L (blS (xbN A) L p) = 42 then xnew M13 13 (fun o24 M25 => xmb (m_X7_init M25 o24 x v12) (fun _ M27 => L_X16_product_5 rec kx N K n o24 M27)) else if sgC (xbN A) L (blS (xbN A) L p) = 47 then xnew M13 17 (fun o20 M21 => xmb (m_X19_init M21 o20 x v12) (fun _ M23 => L_X16_product_5 rec kx N K n o20 M23)) else xnew M13 18 (fun o16 M17 => xmb (m_X20_init M17 o16 x v12) (fun _ M19 => L_X16_product_5 rec kx N K n o16 M19)))) kx ∧ fr (sLc N) nz 0 0 M M2 ∧ lw b M2 A N L k (blS (xbN A) L p + 1) := by
    intro M6 l6 f6
    have hk6 := l6.1.2.1.2.2.2.1
    obtain ⟨M9, e9, f9, l9⟩ := lw_sg2 l6
    rw [xrk_u hk6, e9, xmb_v]
    obtain ⟨M11, e11, f11, l11⟩ := lw_pass l9 hlt (fun M11 => xrk M11 N 8 (xth (F_X16_unit rec M11 N) (fun v12 M13 => jn (fun (y14 : Nat) (M15 : dwSt) => L_X16_product_5 rec kx N K n y14 M15) (fun j97 => if sgC (xbN A) L (blS (xbN A) L p) = 42 then xnew M13 13 (fun o24 M25 => xmb (m_X7_init M25 o24 x v12) (fun _ M27 => j97 o24 M27)) else if sgC (xbN A) L (blS (xbN A) L p) = 47 then xnew M13 17 (fun o20 M21 => xmb (m_X19_init M21 o20 x v12) (fun _ M23 => j97 o20 M23)) else xnew M13 18 (fun o16 M17 => xmb (m_X20_init M17 o16 x v12) (fun _ M19 => j97 o16 M19)))) kx))
    have hk11 := l11.1.2.1.2.2.2.1
    refine ⟨M11, ?_, (f6.t0 f9).t0 f11, l11⟩
    rw [e11, xrk_u hk11]
    rfl
  have hp' := hp
  unfold prO at hp'
  rw [L_X16_product_5, xrk_u hk, e2, xmb_v, jn_u]
  by_cases c1 : blS (xbN A) L p < L ∧ xbN A (blS (xbN A) L p) = 42
  · rw [if_pos (s42.mpr c1)]
    exact go M2 l2 f2
  rw [if_neg c1] at hp'
  obtain ⟨M3, e3, f3, l3⟩ := lw_sg2 l2
  have hk3 := l3.1.2.1.2.2.2.1
  rw [if_neg (fun z => c1 (s42.mp z)), xrk_u hk2, e3, xmb_v]
  by_cases c2 : blS (xbN A) L p < L ∧ xbN A (blS (xbN A) L p) = 47
  · rw [if_pos (s47.mpr c2)]
    exact go M3 l3 (f2.t0 f3)
  rw [if_neg c2] at hp'
  obtain ⟨M4, e4, f4, l4⟩ := lw_sg2 l3
  rw [if_neg (fun z => c2 (s47.mp z)), xrk_u hk3, e4, xmb_v]
  by_cases c3 : blS (xbN A) L p < L ∧ xbN A (blS (xbN A) L p) = 37
  · rw [if_pos (s37.mpr c3)]
    exact go M4 l4 ((f2.t0 f3).t0 f4)
  · rw [if_neg c3] at hp'; exact absurd rfl hp'
theorem cLz_pre {k p p1 n u : Nat} {M1 : dwSt} {x : rsL} {z : dwR9 Nat} (f : fr (sLc N) nz n u M M1) (hp : p ≤ p1 ∧ p1 ≤ L) (hn : n ≤ 5 * (p1 - p)) (hu : u ≤ 36 * (p1 - p)) (h : cLz b A N L k p1 M1 x z) : cLz b A N L k p M x z := by
  cases x with
  | inr e => exact cLz_bad f sLc_N nz_N h (by omega) (by omega)
  | inl v =>
    obtain ⟨M3, a, e3, f3, l3, ⟨p3, p3'⟩, t3⟩ := h
    exact ⟨M3, a, e3, (f.trans f3).mono (fun _ _ z => z) (fun _ _ z => z) (by omega) (by omega), l3, ⟨by omega, p3'⟩, t3⟩
theorem c_prF {recS : Nat → rsL} {rec : dwSt → Nat → dwR9 Nat} {k : Nat} (hr : hRec b A N L k recS rec) : ∀ n F p M x t, L - p ≤ n → n < F → lw b M A N L k p → lroom M L p → (∀ f, tmr N M f t.2.2 x (t.2.1 f)) → cLz b A N L k p M (prF (xbN A) L recS k n t p) (L_X16_product_5 rec (KX Nat) N (fun y M => some (.inl y, M)) F x M) := by
  have no : ∀ F p M x t, lw b M A N L k p → (∀ f, tmr N M f t.2.2 x (t.2.1 f)) → prO (xbN A) L (blS (xbN A) L p) = -1 → cLz b A N L k p M (.inl (t, blS (xbN A) L p)) (L_X16_product_5 rec (KX Nat) N (fun y M => some (.inl y, M)) (F + 1) x M) := fun F p M x t h ht hp => by
    obtain ⟨M2, e2, f2, l2⟩ := c_prNo (rec := rec) (n := F) (x := x) (K := fun y M => (some (.inl y, M) : dwR9 Nat)) (kx := KX Nat) h hp
    obtain ⟨g1, g2⟩ := blS_le (X := xbN A) (L := L) _ p rfl
    exact ⟨M2, x, e2, f2.mono (fun _ _ z => z) (fun _ _ z => z) (by omega) (by omega), l2, ⟨g1, g2 h.1.2.2.2.1⟩, fun f => tmr_fr f2 frT_c frT_z _ _ _ (ht f)⟩
  intro n
  induction n with
  | zero =>
    intro F p M x t h1 h2 h hR ht
    obtain ⟨F, rfl⟩ : ∃ F', F = F' + 1 := ⟨F - 1, by omega⟩
    obtain ⟨g1, g2⟩ := blS_le (X := xbN A) (L := L) _ p rfl
    exact no F p M x t h ht (by by_cases c : prO (xbN A) L (blS (xbN A) L p) = -1; exact c; have := (prO_lt c).1; omega)
  | succ n ih =>
    intro F p M x t h1 h2 h hR ht
    obtain ⟨F, rfl⟩ : ∃ F', F = F' + 1 := ⟨F - 1, by omega⟩
    obtain ⟨g1, g2⟩ := blS_le (X := xbN A) (L := L) _ p rfl
    have g2 := g2 h.1.2.2.2.1
    rw [prF]
    by_cases c : prO (xbN A) L (blS (xbN A) L p) = -1
    · rw [if_pos c]; exact no F p M x t h ht c
    · rw [if_neg c]
      obtain ⟨o1, o2⟩ := prO_lt c
      obtain ⟨M2, e2, f2, l2⟩ := c_prGo (rec := rec) (n := F) (x := x) (K := fun y M => (some (.inl y, M) : dwR9 Nat)) (kx := KX Nat) h c
      have hR2 : lroom M2 L (blS (xbN A) L p + 1) := lroom_fr hR f2 (by omega) (by omega) (by omega)
      have r := c_unit hr l2 hR2
      rw [e2]
      cases hu : unG (xbN A) L recS k (blS (xbN A) L p + 1) with
      | inr e =>
        rw [hu] at r
        exact cLz_bad f2 sLc_N nz_N (bdC.th r) (by omega) (by omega)
      | inl u =>
        rw [hu] at r
        obtain ⟨M3, a, e3, f3, l3, ⟨p3, p3'⟩, t3⟩ := r
        have F3 := f2.trans f3
        have hn3 := F3.n
        have hN := h.1.2.1.1
        have hR3 : room M3 (1 + (5 * (L - u.2) + 5)) (2 + (36 * (L - u.2) + 42)) := by
          unfold lroom at hR
          exact (hR.le (n' := (0 + 5 * (u.2 - (blS (xbN A) L p + 1))) + (1 + (5 * (L - u.2) + 5))) (u' := (0 + 36 * (u.2 - (blS (xbN A) L p + 1))) + (2 + (36 * (L - u.2) + 42))) (by omega) (by omega)).fr F3
        obtain ⟨M9, -, -, lq⟩ := lw_sg h
        obtain ⟨M4, e4, f4, t4⟩ := c_prMk (J := fun o M => L_X16_product_5 rec (KX Nat) N (fun y M => (some (.inl y, M) : dwR9 Nat)) F o M) lq rfl c (by omega) (fun f => tmr_fr f3 frT_c frT_z _ _ _ (tmr_fr f2 frT_c frT_z _ _ _ (ht f))) t3 (hR3.le (by omega) (by omega))
        have l4 := lw_z l3 f4
        have hR4 : lroom M4 L u.2 := hR3.fr f4
        rw [e3, xth_v, e4]
        have F4 := F3.trans (f4.mono (S' := sLc N) (Z' := nz) (fun _ _ z => False.elim z) (fun _ _ z => z) (Nat.le_refl _) (Nat.le_refl _))
        exact cLz_pre F4 ⟨by omega, p3'⟩ (by omega) (by omega) (ih F u.2 M4 (dwN M3) _ (by omega) (by omega) l4 hR4 t4)
theorem c_prod {recS : Nat → rsL} {rec : dwSt → Nat → dwR9 Nat} {k p : Nat} (hr : hRec b A N L k recS rec) (hL : L < 900000) (h : lw b M A N L k p) (hR : lroom M L p) : cLz b A N L k p M (prG (xbN A) L recS k p) (F_X16_product rec M N) := by
  have hk := h.1.2.1.2.2.2.1
  have r := c_unit hr h hR
  unfold F_X16_product prG
  rw [xrk_u hk]
  cases hu : unG (xbN A) L recS k p with
  | inr e => rw [hu] at r; exact bdC.th r
  | inl u =>
    rw [hu] at r
    obtain ⟨M3, a, e3, f3, l3, ⟨p3, p3'⟩, t3⟩ := r
    rw [e3, xth_v, jn_u]
    exact cLz_pre f3 ⟨p3, p3'⟩ (Nat.le_refl _) (Nat.le_refl _) (c_prF hr L 1000000 u.2 M3 a u.1 (by omega) (by omega) l3 (lroom_fr hR f3 ⟨p3, p3'⟩ (Nat.le_refl _) (Nat.le_refl _)) t3)
end LAW
