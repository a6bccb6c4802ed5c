/-! A LAW read: the component's terms -/
def tmr (N : Nat) (M : dwSt) (f : Nat → Int32) : Nat → Nat → Int32 → Prop
  | 0, _, _ => False
  | d + 1, a, v => (N < a ∧ a < dwN M) ∧ ((dwK M a = (0, 14) ∧ v = dwI M a 115) ∨ (dwK M a = (0, 12) ∧ ∃ k, k < 10 ∧ dwI M a 114 = Int32.ofNat k ∧ v = f k) ∨ (∃ o ci x y v1 v2, opC o ci ∧ dwK M a = (0, ci) ∧ dwR M a 112 = some x ∧ dwR M a 113 = some y ∧ tmr N M f d x v1 ∧ tmr N M f d y v2 ∧ v = opS o v1 v2))
/-- no term is written -/
def frT (N : Nat) (S : Nat → Nat → Prop) (M : dwSt) : Prop := ∀ a k, a < dwN M → S a k → a ≤ N ∨ dwK M a = (0, 28)
section LAW
variable {b : Nat} {w : Nat → Nat} {M : dwSt} {A : dvA} {ρ : Type} {N L : Nat}
theorem opC_28 {o : Int32} {ci : Nat} (h : opC o ci) : ci ≠ 28 ∧ (dwFs ci).length = 2 ∧ dwHasW (0, ci) 112 = true ∧ dwHasW (0, ci) 113 = true := by
  rcases h with ⟨-, rfl⟩ | ⟨-, rfl⟩ | ⟨-, rfl⟩ | ⟨-, rfl⟩ | ⟨-, rfl⟩ | ⟨-, rfl⟩ | ⟨-, rfl⟩ <;> exact ⟨by decide, by decide, rfl, rfl⟩
theorem tmr_fr {S Z : Nat → Nat → Prop} {n u : Nat} {M' : dwSt} {f : Nat → Int32} (fm : fr S Z n u M M') (hS : frT N S M) (hZ : frT N Z M) : ∀ (d a : Nat) (v : Int32), tmr N M f d a v → tmr N M' f d a v := by
  intro d
  induction d with
  | zero => intro a v h; exact h
  | succ d ih =>
    intro a v h
    obtain ⟨⟨h0, h0'⟩, h⟩ := h
    have hn := fm.n
    have nS : ∀ ci, ci ≠ 28 → dwK M a = (0, ci) → ∀ k, ¬ S a k := fun ci hc hk k z => by
      rcases hS a k h0' z with q | q
      · omega
      · rw [hk] at q; exact hc (congrArg Prod.snd q)
    have nZ : ∀ ci, ci ≠ 28 → dwK M a = (0, ci) → ∀ k, ¬ Z a k := fun ci hc hk k z => by
      rcases hZ a k h0' z with q | q
      · omega
      · rw [hk] at q; exact hc (congrArg Prod.snd q)
    refine ⟨⟨h0, by omega⟩, ?_⟩
    rcases h with ⟨h1, h2⟩ | ⟨h1, k, h2, h3, h4⟩ | ⟨o, ci, x, y, v1, v2, h1, h2, h3, h4, h5, h6, h7⟩
    · exact Or.inl ⟨(fm.k h0').trans h1, by rw [fm.i h0' (nS 14 (by omega) h1 _)]; exact h2⟩
    · exact Or.inr (Or.inl ⟨(fm.k h0').trans h1, k, h2, (fm.i h0' (nS 12 (by omega) h1 _)).trans h3, h4⟩)
    · have hc := (opC_28 h1).1
      exact Or.inr (Or.inr ⟨o, ci, x, y, v1, v2, h1, (fm.k h0').trans h2, (fm.r h0' (nZ ci hc h2 _)).trans h3, (fm.r h0' (nZ ci hc h2 _)).trans h4, ih _ _ h5, ih _ _ h6, h7⟩)
theorem tmr_le {f : Nat → Int32} : ∀ (d d' a : Nat) (v : Int32), d ≤ d' → tmr N M f d a v → tmr N M f d' a v := by
  intro d
  induction d with
  | zero => intro d' a v _ h; exact False.elim h
  | succ d ih =>
    intro d' a v hd h
    obtain ⟨d'', rfl⟩ : ∃ d'', d' = d'' + 1 := ⟨d' - 1, by omega⟩
    refine ⟨h.1, ?_⟩
    rcases h.2 with h | h | ⟨o, ci, x, y, v1, v2, h1, h2, h3, h4, h5, h6, h7⟩
    · exact Or.inl h
    · exact Or.inr (Or.inl h)
    · exact Or.inr (Or.inr ⟨o, ci, x, y, v1, v2, h1, h2, h3, h4, ih d'' x v1 (by omega) h5, ih d'' y v2 (by omega) h6, h7⟩)
theorem tmr_tma {f : Nat → Int32} (hb : b + 562 ≤ N) (hw : ∀ a, N ≤ a → a < dwN M → w a = 2) : ∀ (d a : Nat) (v : Int32), tmr N M f d a v → tma b w M f d a v := by
  intro d
  induction d with
  | zero => intro a v h; exact h
  | succ d ih =>
    intro a v h
    refine ⟨⟨hw a (by have := h.1.1; omega) h.1.2, by have := h.1.1; unfold imf; omega, h.1.2⟩, ?_⟩
    rcases h.2 with h | h | ⟨o, ci, x, y, v1, v2, h1, h2, h3, h4, h5, h6, h7⟩
    · exact Or.inl h
    · exact Or.inr (Or.inl h)
    · exact Or.inr (Or.inr ⟨o, ci, x, y, v1, v2, h1, h2, h3, h4, ih _ _ h5, ih _ _ h6, h7⟩)
/-- the component reads a law; k may still be opened -/
def lw (b : Nat) (M : dwSt) (A : dvA) (N L k p : Nat) : Prop := cAt b M A N 8 L p ∧ dwI M N 94 = Int32.ofNat (6 - k) ∧ k ≤ 6 ∧ KS b M
def sLc (N : Nat) : Nat → Nat → Prop := fun a k => a = N ∧ (k = 92 ∨ k = 93 ∨ k = 94)
theorem lw_to {S Z : Nat → Nat → Prop} {n u k p q : Nat} {M1 : dwSt} (h : lw b M A N L k p) (f : fr S Z n u M M1) (hS : ∀ a k, a < dwN M → S a k → b + 562 ≤ a ∧ (a = N → k ≠ 94)) (hZ : ∀ a k, a < dwN M → ¬ Z a k) (c : cAt b M1 A N 8 L q) : lw b M1 A N L k q := by
  have hN := h.1.2.1.1
  have hn := shN h.1.1.1
  have f' := f.old (S' := fun a k => a < dwN M ∧ S a k) (Z' := nz) (fun a k ha z => ⟨ha, z⟩) (fun a k ha z => absurd z (hZ a k ha))
  exact ⟨c, (f'.i hN (fun z => (hS _ _ z.1 z.2).2 rfl rfl)).trans h.2.1, h.2.2.1, h.2.2.2.fr (by omega) f' (fun a k z => by have := (hS a k z.1 z.2).1; omega) (fun _ _ z => False.elim z)⟩
/-- what reading a term comes to -/
def cLz (b : Nat) (A : dvA) (N L k p : Nat) (M : dwSt) (x : rsL) (z : dwR9 Nat) : Prop := match x with
  | .inl u => ∃ M2 a, z = some (.inl a, M2) ∧ fr (sLc N) nz (5 * (u.2 - p)) (36 * (u.2 - p)) M M2 ∧ lw b M2 A N L k u.2 ∧ (p ≤ u.2 ∧ u.2 ≤ L) ∧ ∀ f, tmr N M2 f u.1.2.2 a (u.1.2.1 f)
  | .inr e => bdC N (5 * (L - p) + 5) (36 * (L - p) + 42) M e z
def lroom (M : dwSt) (L p : Nat) : Prop := room M (5 * (L - p) + 5) (36 * (L - p) + 42)
theorem cLz_bad {S Z : Nat → Nat → Prop} {k p n u n' u' : Nat} {M1 : dwSt} {e : Nat × Nat} {z : dwR9 Nat} (f : fr S Z n u M M1) (hS : ∀ a k, S a k → N ≤ a) (hZ : ∀ a k, Z a k → N ≤ a) (h : bdC N n' u' M1 e z) (hn : n + n' ≤ 5 * (L - p) + 5) (hu : u + u' ≤ 36 * (L - p) + 42) : cLz b A N L k p M (.inr e) z := (bdC.pre h f hS hZ).le hn hu
theorem sLc_N {N : Nat} : ∀ a k, sLc N a k → N ≤ a := fun a k z => by have := z.1; omega
theorem sPo_N {N : Nat} : ∀ a k, sPo N a k → N ≤ a := fun a k z => by have := z.1; omega
theorem sNo_N {N : Nat} : ∀ a k, sNo N a k → N ≤ a := fun a k z => by have := z.1; omega
theorem nz_N {N : Nat} : ∀ a k, nz a k → N ≤ a := fun _ _ z => False.elim z
theorem sPo_c {N : Nat} : ∀ a k, sPo N a k → sLc N a k := fun a k z => ⟨z.1, Or.inl z.2⟩
theorem sNo_c {N : Nat} : ∀ a k, sNo N a k → sLc N a k := fun a k z => ⟨z.1, by have := z.2; omega⟩
theorem frT_c {N : Nat} : frT N (sLc N) M := fun a k _ z => Or.inl (Nat.le_of_eq z.1)
theorem frT_z {N : Nat} : frT N nz M := fun a k _ z => False.elim z
theorem lw_po {k p q : Nat} {n u : Nat} {M1 : dwSt} (h : lw b M A N L k p) (f : fr (sPo N) nz n u M M1) (c : cAt b M1 A N 8 L q) : lw b M1 A N L k q := lw_to h f (fun a k _ z => by have := z.1; have := z.2; have := h.1.2.1.2.1; exact ⟨by omega, fun _ => by omega⟩) (fun _ _ _ z => z) c
theorem lw_no {k p q : Nat} {n u : Nat} {M1 : dwSt} (h : lw b M A N L k p) (f : fr (sNo N) nz n u M M1) (c : cAt b M1 A N 8 L q) : lw b M1 A N L k q := lw_to h f (fun a k _ z => by have := z.1; have := z.2; have := h.1.2.1.2.1; exact ⟨by omega, fun _ => by omega⟩) (fun _ _ _ z => z) c
theorem lw_z {k p : Nat} {n u : Nat} {M1 : dwSt} (h : lw b M A N L k p) (f : fr nz nz n u M M1) : lw b M1 A N L k p := lw_to h f (fun a k _ z => False.elim z) (fun _ _ _ z => z) (h.1.fr f (fun _ _ z => False.elim z) (fun _ _ z => False.elim z))
theorem lw_sign {k p : Nat} (h : lw b M A N L k p) : ∃ M2, m_X11_sign M N = some (sgC (xbN A) L (blS (xbN A) L p), M2) ∧ fr (sPo N) nz 0 0 M M2 ∧ lw b M2 A N L k (blS (xbN A) L p) := by
  obtain ⟨M2, e, f, c⟩ := cA_sign h.1
  exact ⟨M2, e, f, lw_po h f c⟩
/-- a term of two made -/
theorem c_mkO {o : Int32} {ci x y : Nat} {t1 t2 : tmT} {J : Nat → dwSt → Option ρ} {ini : dwSt → Nat → Nat → Nat → Option (Unit × dwSt)} (hi : ∀ M a x y, ini M a x y = xmb (m_X4_init M a x y) (fun _ M2 => some ((), M2))) (ho : opC o ci) (hN : N < dwN M) (h1 : ∀ f, tmr N M f t1.2.2 x (t1.2.1 f)) (h2 : ∀ f, tmr N M f t2.2.2 y (t2.2.1 f)) (hR : room M 1 2) : ∃ M2, xnew M ci (fun o9 M9 => xmb (ini M9 o9 x y) (fun _ M10 => J o9 M10)) = J (dwN M) M2 ∧ fr nz nz 1 2 M M2 ∧ ∀ f, tmr N M2 f (opT o t1 t2).2.2 (dwN M) ((opT o t1 t2).2.1 f) := by
  obtain ⟨c1, c2, c3, c4⟩ := opC_28 ho
  have kk : dwK (dwMk M (0, ci) 2) (dwN M) = (0, ci) := by rw [dk_Mk, if_pos rfl]
  have f1 : fr (atN (dwN M)) (atN (dwN M)) 1 2 M (dwPR (dwPR (dwMk M (0, ci) 2) (dwN M) 112 (some x)) (dwN M) 113 (some y)) := (((fr.refl (S := atN (dwN M)) (Z := atN (dwN M)) M).mk (0, ci) 2).pR (a := dwN M) (k := 112) (some x) (Or.inl (Nat.le_refl (dwN M)))).pR (a := dwN M) (k := 113) (some y) (Or.inl (Nat.le_refl (dwN M)))
  have f2 := f1.old (S' := nz) (Z' := nz) (fun a k ha z => by have : dwN M ≤ a := z; omega) (fun a k ha z => by have : dwN M ≤ a := z; omega)
  refine ⟨_, ?_, f2, fun f => ⟨⟨hN, ?_⟩, Or.inr (Or.inr ⟨o, ci, x, y, t1.2.1 f, t2.2.1 f, ho, ?_, ?_, ?_, tmr_le _ _ _ _ (Nat.le_max_left _ _) (tmr_fr f2 frT_z frT_z _ _ _ (h1 f)), tmr_le _ _ _ _ (Nat.le_max_right _ _) (tmr_fr f2 frT_z frT_z _ _ _ (h2 f)), rfl⟩)⟩⟩
  · rw [xnew_u c2 hR, hi]
    unfold m_X4_init m_X3_init
    rw [xob_v, xpR_u (by rw [kk]; exact c3), xpR_u (by rw [dk_PR, kk]; exact c4), xmb_v, xmb_v]
  · rw [dn_PR, dn_PR, dn_Mk]; omega
  · rw [dk_PR, dk_PR]; exact kk
  · rw [dr_PR, if_neg (by omega), dr_PR, if_pos ⟨rfl, rfl⟩]
  · rw [dr_PR, if_pos ⟨rfl, rfl⟩]
end LAW
