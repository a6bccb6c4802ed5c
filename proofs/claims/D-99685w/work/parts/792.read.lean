/-! A WORK: what the steps do; the component goes -/
abbrev dgS : Type := (Nat → Int32) × Nat × Int32 × Int32
def stG (T : dvT) (lw : (Nat → Int32) → Int32) (k a c : Nat) (σ : dgS) : dgS := if σ.2.1 = 200 then σ else (acS T lw k a c σ.1, σ.2.1 + 1, σ.2.2.1 + (if acF k a c σ.1 = 0 then 0 else 1), σ.2.2.2 + (if acF k a c σ.1 = 0 then 1 else 0))
def rpG (F : dgS → dgS) : Nat → dgS → dgS
  | 0, σ => σ
  | n + 1, σ => rpG F n (F σ)
def sqG : List (dgS → dgS) → dgS → dgS
  | [], σ => σ
  | G :: Gs, σ => sqG Gs (G σ)
def agG (n : Nat) (F : dgS → dgS) (σ : dgS) : dgS := if σ.2.1 = 200 then σ else rpG F n (σ.1, σ.2.1 + 1, σ.2.2)
def idG (F : dgS → dgS) : Prop := ∀ σ : dgS, σ.2.1 = 200 → F σ = σ
theorem stG_id {T : dvT} {lw : (Nat → Int32) → Int32} {k a c : Nat} : idG (stG T lw k a c) := fun σ h => if_pos h
theorem agG_id {n : Nat} {F : dgS → dgS} : idG (agG n F) := fun σ h => if_pos h
theorem rpG_id {F : dgS → dgS} (h : idG F) : ∀ n, idG (rpG F n)
  | 0 => fun σ _ => rfl
  | n + 1 => fun σ hσ => by rw [rpG, h σ hσ]; exact rpG_id h n σ hσ
theorem sqG_id : ∀ (Gs : List (dgS → dgS)), (∀ G ∈ Gs, idG G) → idG (sqG Gs)
  | [], _ => fun σ _ => rfl
  | G :: Gs, h => fun σ hσ => by
    rw [sqG, h G List.mem_cons_self σ hσ]
    exact sqG_id Gs (fun G' hG => h G' (List.mem_cons_of_mem _ hG)) σ hσ
/-- a step at o does F -/
def cStp (N : Nat → Prop) (M : dwSt) (T : dvT) (lw : (Nat → Int32) → Int32) : Nat → Nat → (dgS → dgS) → Prop
  | 0, _, _ => False
  | d + 1, o, F => (N o ∧ o < dwN M) ∧ ((∃ k a c, acV T k a c ∧ aO M o k a c ∧ F = stG T lw k a c) ∨ (∃ n l e cap g, ∃ Gs : List (dgS → dgS), n ≤ 60 ∧ dwK M o = (0, 25) ∧ dwI M o 122 = Int32.ofNat n ∧ dwR M o 123 = some l ∧ (N l ∧ N e) ∧ rwL M l Gs.length e cap g ∧ (∀ i G, Gs[i]? = some G → cStp N M T lw d (g i) G) ∧ F = agG n (sqG Gs)))
theorem cStp_id {N : Nat → Prop} {M : dwSt} {T : dvT} {lw : (Nat → Int32) → Int32} : ∀ d o F, cStp N M T lw d o F → idG F := by
  intro d
  cases d with
  | zero => intro o F h; exact False.elim h
  | succ d =>
    intro o F h
    rcases h.2 with ⟨k, a, c, -, -, e⟩ | ⟨n, l, e, cap, g, Gs, -, -, -, -, -, -, -, e'⟩
    · rw [e]; exact stG_id
    · rw [e']; exact agG_id
theorem acV_k {T : dvT} {k a c : Nat} (h : acV T k a c) : k < 5 := by unfold acV at h; omega
theorem hs2x {f : Nat} (h : 116 ≤ f ∧ f ≤ 121) : True := trivial
/-- what is of no step -/
def frV (N : Nat → Prop) (S Z : Nat → Nat → Prop) : Prop := ∀ a k, N a → ¬ S a k ∧ ¬ Z a k
theorem aO.fr {S Z : Nat → Nat → Prop} {n u o k a c : Nat} {N : Nat → Prop} {M M' : dwSt} (h : aO M o k a c) (f : fr S Z n u M M') (hS : frV N S Z) (hN : N o) (ho : o < dwN M) : aO M' o k a c := by
  obtain ⟨h0, h1, h2, h3, h4⟩ := h
  have e : ∀ j, dwI M' o j = dwI M o j := fun j => f.i ho (hS o j hN).1
  exact ⟨(f.k ho).trans h0, fun z => ⟨(e _).trans (h1 z).1, (e _).trans (h1 z).2⟩, fun z => ⟨(e _).trans (h2 z).1, (e _).trans (h2 z).2⟩, fun z => (e _).trans (h3 z), fun z => (e _).trans (h4 z)⟩
theorem rwL.fz {S Z : Nat → Nat → Prop} {n u l m e cap : Nat} {N : Nat → Prop} {g : Nat → Nat} {M M' : dwSt} (h : rwL M l m e cap g) (f : fr S Z n u M M') (hS : frV N S Z) (hN : N l ∧ N e) : rwL M' l m e cap g := by
  obtain ⟨k, i126, r125, ke, hle, hcap, hNl, hg⟩ := h
  have hn := f.n
  refine ⟨(f.k hNl.1).trans k, (f.i hNl.1 (hS _ _ hN.1).1).trans i126, (f.r hNl.1 (hS _ _ hN.1).2).trans r125, (f.k hNl.2).trans ke, hle, hcap, ⟨by omega, by omega⟩, fun p hp => ?_⟩
  obtain ⟨g1, g2, ci, g3, g4⟩ := hg p hp
  exact ⟨(f.r hNl.2 (hS _ _ hN.2).2).trans g1, by omega, ci, (f.k g2).trans g3, g4⟩
theorem cStp_fr {S Z : Nat → Nat → Prop} {n u : Nat} {N : Nat → Prop} {M M' : dwSt} {T : dvT} {lw : (Nat → Int32) → Int32} (f : fr S Z n u M M') (hS : frV N S Z) : ∀ d o F, cStp N M T lw d o F → cStp N M' T lw d o F := by
  intro d
  induction d with
  | zero => intro o F h; exact h
  | succ d ih =>
    intro o F ⟨⟨h1, h2⟩, h⟩
    have hn := f.n
    refine ⟨⟨h1, by omega⟩, ?_⟩
    rcases h with ⟨k, a, c, h3, h4, h5⟩ | ⟨m, l, e, cap, g, Gs, h3, h4, h5, h6, h7, h8, h9, h10⟩
    · exact Or.inl ⟨k, a, c, h3, h4.fr f hS h1 h2, h5⟩
    · exact Or.inr ⟨m, l, e, cap, g, Gs, h3, (f.k h2).trans h4, (f.i h2 (hS _ _ h1).1).trans h5, (f.r h2 (hS _ _ h1).2).trans h6, h7, h8.fz f hS h7, fun i G hi => ih _ _ (h9 i G hi), h10⟩
theorem cStp_le {N : Nat → Prop} {M : dwSt} {T : dvT} {lw : (Nat → Int32) → Int32} : ∀ d d' o F, d ≤ d' → cStp N M T lw d o F → cStp N M T lw d' o F := by
  intro d
  induction d with
  | zero => intro d' o F _ h; exact False.elim h
  | succ d ih =>
    intro d' o F hd h
    obtain ⟨d', rfl⟩ : ∃ x, d' = x + 1 := ⟨d' - 1, by omega⟩
    refine ⟨h.1, ?_⟩
    rcases h.2 with h | ⟨m, l, e, cap, g, Gs, h3, h4, h5, h6, h7, h8, h9, h10⟩
    · exact Or.inl h
    · exact Or.inr ⟨m, l, e, cap, g, Gs, h3, h4, h5, h6, h7, h8, fun i G hi => ih _ _ _ (by omega) (h9 i G hi), h10⟩
theorem cStp_V {N V : Nat → Prop} {M : dwSt} {T : dvT} {lw : (Nat → Int32) → Int32} (hv : ∀ a, a < dwN M → N a → V a) : ∀ d o F, cStp N M T lw d o F → cStp V M T lw d o F := by
  intro d
  induction d with
  | zero => intro o F h; exact False.elim h
  | succ d ih =>
    intro o F h
    refine ⟨⟨hv _ h.1.2 h.1.1, h.1.2⟩, ?_⟩
    rcases h.2 with h | ⟨m, l, e, cap, g, Gs, h3, h4, h5, h6, h7, h8, h9, h10⟩
    · exact Or.inl h
    · exact Or.inr ⟨m, l, e, cap, g, Gs, h3, h4, h5, h6, ⟨hv _ h8.2.2.2.2.2.2.1.1 h7.1, hv _ h8.2.2.2.2.2.2.1.2 h7.2⟩, h8, fun i G hi => ih _ _ (h9 i G hi), h10⟩
def sWk (b : Nat) : Nat → Nat → Prop := fun x _ => (b + 23 ≤ x ∧ x ≤ b + 28) ∨ x = b + 20
section GO
variable {b : Nat} {N : Nat → Prop} {w : Nat → Nat} {M : dwSt} {T : dvT} {lw : (Nat → Int32) → Int32} {o k a c : Nat} {ρ : Type}
theorem sWk_N (hN : ∀ a, N a → b + 562 ≤ a) : frV N (sWk b) nz := fun a k ha => ⟨by have := hN a ha; unfold sWk; omega, fun z => z⟩
theorem sWk_f : cFree b w (sWk b) := fun a k q hi => by unfold sWk at q; unfold imf at hi; omega
def cG (b : Nat) (w : Nat → Nat) (M : dwSt) (T : dvT) (lw : (Nat → Int32) → Int32) (σ : dgS) : Prop := cEnv b w M T lw ∧ tOK T ∧ cSea b M (b + 23) (tP T) σ.1 ∧ rowD T σ.1 ∧ σ.2.1 ≤ 200 ∧ dwI M (b + 23) 40 = Int32.ofNat σ.2.1 ∧ dwI M (b + 23) 41 = σ.2.2.1 ∧ dwI M (b + 23) 42 = σ.2.2.2
theorem cSea_pI {s n j : Nat} {v : Int32} {r : Nat → Int32} (h : cSea b M s n r) (hj : 40 ≤ j ∧ j ≤ 42) : cSea b (dwPI M s j v) s n r := by
  have f : fr (fun x k => x = s ∧ k = j) nz 0 0 M (dwPI M s j v) := (fr.refl M).pI _ (Or.inl ⟨rfl, rfl⟩)
  refine ⟨h.1.fr f (fun _ z => z), ?_⟩
  obtain ⟨r1, r2, r3, r4, r5, r6, r7, r8⟩ := h.2
  refine ⟨fun p hp => ?_, fun p hp => ?_, fun p hp => ?_, fun p hp => ?_, fun p hp => ?_, ?_, ?_, ?_⟩
  · rw [di_ne (by omega)]; exact r1 p hp
  · rw [di_ne (by omega)]; exact r2 p hp
  · rw [di_ne (by omega)]; exact r3 p hp
  · rw [di_ne (by omega)]; exact r4 p hp
  · rw [di_ne (by omega)]; exact r5 p hp
  · rw [di_ne (by omega)]; exact r6
  · rw [di_ne (by omega)]; exact r7
  · rw [di_ne (by omega)]; exact r8
theorem cEnv_pI {j : Nat} {v : Int32} (h : cEnv b w M T lw) : cEnv b w (dwPI M (b + 23) j v) T lw := by
  have f : fr (sWk b) nz 0 0 M (dwPI M (b + 23) j v) := (fr.refl M).pI _ (Or.inl (Or.inl ⟨by omega, by omega⟩))
  exact h.fr f sWk_f
theorem c_goAct {σ : dgS} (hG : cG b w M T lw σ) (ho : aO M o k a c) (hv : acV T k a c) (hN : ∀ a, N a → b + 562 ≤ a) (hoN : N o ∧ o < dwN M) : ∃ M', m_X24_goes M o (b + 23) = some ((), M') ∧ fr (sWk b) nz 0 0 M M' ∧ cG b w M' T lw (stG T lw k a c σ) := by
  obtain ⟨h1, h2, h3, h4, h5, h6, h7, h8⟩ := id hG
  have ks := h3.1.2.1
  have hn := h3.1.1
  unfold m_X24_goes m_X23_may stG
  rw [xgI_u (by rw [ks]; rfl), h6]
  by_cases c200 : σ.2.1 = 200
  · rw [if_pos c200, if_pos (show Int32.ofNat σ.2.1 = 200 by rw [c200]; rfl), xmb_v, if_pos rfl]
    exact ⟨M, rfl, fr.refl M, hG⟩
  · have ne : ¬ Int32.ofNat σ.2.1 = 200 := fun z => c200 ((i_inj (b := 200) (by omega) (by omega)).mp z)
    rw [if_neg c200, if_neg ne, xgI_u (by rw [ks]; rfl), h6, i_succ, xpI_u (by rw [ks]; rfl), xmb_v, if_neg (show ¬ (1 : Int32) = 0 by decide)]
    have f1 : fr (sWk b) nz 0 0 M (dwPI M (b + 23) 40 (Int32.ofNat (σ.2.1 + 1))) := (fr.refl M).pI _ (Or.inl (Or.inl ⟨by omega, by omega⟩))
    have S1 := cSea_pI (j := 40) (v := Int32.ofNat (σ.2.1 + 1)) h3 (by omega)
    have E1 := cEnv_pI (j := 40) (v := Int32.ofNat (σ.2.1 + 1)) h1
    have o1 := ho.fr f1 (sWk_N hN) hoN.1 hoN.2
    have j40 : dwI (dwPI M (b + 23) 40 (Int32.ofNat (σ.2.1 + 1))) (b + 23) 40 = Int32.ofNat (σ.2.1 + 1) := di_eq
    have j41 : dwI (dwPI M (b + 23) 40 (Int32.ofNat (σ.2.1 + 1))) (b + 23) 41 = σ.2.2.1 := by rw [di_ne (by omega)]; exact h7
    have j42 : dwI (dwPI M (b + 23) 40 (Int32.ofNat (σ.2.1 + 1))) (b + 23) 42 = σ.2.2.2 := by rw [di_ne (by omega)]; exact h8
    have n1 : dwN (dwPI M (b + 23) 40 (Int32.ofNat (σ.2.1 + 1))) = dwN M := rfl
    generalize dwPI M (b + 23) 40 (Int32.ofNat (σ.2.1 + 1)) = M1 at *
    obtain ⟨M2, e2, f2, S2⟩ := c_act E1 h2 S1 h4 o1 hv
    have sG : ∀ j, 40 ≤ j ∧ j ≤ 42 → ¬ sSG b (b + 23) (b + 23) j := fun j hj => by unfold sSG; omega
    have f2w : fr (sWk b) nz 0 0 M1 M2 := f2.mono (fun x k z => by unfold sSG at z; unfold sWk; omega) (fun _ _ z => z) (Nat.le_refl _) (Nat.le_refl _)
    have E2 := E1.fr f2w sWk_f
    have i40 := (f2.i (by omega) (sG 40 (by omega))).trans j40
    have i41 := (f2.i (by omega) (sG 41 (by omega))).trans j41
    have i42 := (f2.i (by omega) (sG 42 (by omega))).trans j42
    have k2 := S2.1.2.1
    have ok := acS_ok h2 hv h4 (lw := lw)
    have w41 : ∀ v1 v2, fr (sWk b) nz 0 0 M (dwPI (dwPI M2 (b + 23) 41 v1) (b + 23) 42 v2) := fun v1 v2 => (((f1.t0 f2w).pI _ (Or.inl (Or.inl ⟨by omega, by omega⟩))).pI _ (Or.inl (Or.inl ⟨by omega, by omega⟩)))
    have fin : ∀ v1 v2, cG b w (dwPI (dwPI M2 (b + 23) 41 v1) (b + 23) 42 v2) T lw (acS T lw k a c σ.1, σ.2.1 + 1, v1, v2) := fun v1 v2 => ⟨cEnv_pI (cEnv_pI E2), h2, cSea_pI (cSea_pI S2 (by omega)) (by omega), ok, by show σ.2.1 + 1 ≤ 200; omega, by rw [di_ne (by omega), di_ne (by omega)]; exact i40, by rw [di_ne (by omega), di_eq], di_eq⟩
    rw [e2, xmb_v, xgI_u (by rw [k2]; rfl), i41, jn_u]
    by_cases z : acF k a c σ.1 = 0
    · simp only [if_pos z]
      rw [xpI_u (by rw [k2]; rfl), xgI_u (by rw [dk_PI, k2]; rfl), di_ne (by omega), i42, xpI_u (by rw [dk_PI, k2]; rfl)]
      exact ⟨_, rfl, w41 _ _, fin _ _⟩
    · simp only [if_neg z]
      rw [xpI_u (by rw [k2]; rfl), xgI_u (by rw [dk_PI, k2]; rfl), di_ne (by omega), i42, xpI_u (by rw [dk_PI, k2]; rfl)]
      exact ⟨_, rfl, w41 _ _, fin _ _⟩
theorem rw_get {l m e cap p : Nat} {g : Nat → Nat} (h : rwL M l m e cap g) (hp : p < m) : m_J2_get M l (Int32.ofNat p) = some (g p) := by
  obtain ⟨k, i126, r125, ke, hle, hcap, hNl, hg⟩ := h
  obtain ⟨g1, g2, ci, g3, g4⟩ := hg p hp
  have g1' : ∀ {ρ : Type} (K : Nat → Option ρ), xgR M 125 l K = K e := fun K => xgR_v (by rw [k]; rfl) r125 K
  have g2' : ∀ {ρ : Type} (K : Nat → Option ρ), xaR M 6 e (Int32.ofNat p) K = K (g p) := fun K => xaR_v ke (by omega) (by omega) g1 K
  simp -implicitDefEqProofs only [m_J2_get, m_J17_checkIndex, m_J14_checkIndex, m_J2_elementData, ↓xgI_u, ↓xpI_u, ↓xaI_u, ↓xsI_u, ↓xrk_u, ↓xrk0_u, ↓xob_v, ↓xmb_v, ↓xth_v, ↓xth_x, ↓jn_u, ↓xlen_u, ↓xaL_u, ↓xsL_u, ↓xbl_0, ↓xbl_1, eq_self, inb_n, inb_d, Sh_PI, Sh_PL, dk_PI, dk_PL, dr_PI, dr_PL, ↓reduceIte, Int32.reduceLE, Int32.reduceLT, Int32.reduceToNatClampNeg, Nat.reduceLT, Nat.reduceLeDiff, Nat.reduceEqDiff, Nat.reduceAdd, Nat.reduceMul, k, hs26, i126, i_neg (show p < 2147483648 by omega), if_false, i_ltT hp (by omega), if_true, g1', g2']
/-- all the steps of a list go -/
theorem c_goSeq {F0 : dwSt → Nat → Nat → Option (Unit × dwSt)} {l e cap d : Nat} {g : Nat → Nat} {Gs : List (dgS → dgS)} {u2 : Int32} {K : dwSt → Option ρ} (hN : ∀ a, N a → b + 562 ≤ a) (hgo : ∀ o F M σ, cStp N M T lw d o F → cG b w M T lw σ → ∃ M', D_Step_goes F0 M o (b + 23) = some ((), M') ∧ fr (sWk b) nz 0 0 M M' ∧ cG b w M' T lw (F σ)) : ∀ m i f M σ, i ≤ Gs.length → Gs.length - i = m → m < f → dwK M o = (0, 25) → dwR M o 123 = some l → (N o ∧ o < dwN M) → (N l ∧ N e) → rwL M l Gs.length e cap g → (∀ i G, Gs[i]? = some G → cStp N M T lw d (g i) G) → cG b w M T lw σ → ∃ M', L_X30_goes_30 F0 o (b + 23) u2 K f (Int32.ofNat i) M = K M' ∧ fr (sWk b) nz 0 0 M M' ∧ cG b w M' T lw (sqG (Gs.drop i) σ) := by
  intro m
  induction m with
  | zero =>
    intro i f M σ h0 h1 h2 hk h123 hoN hle hL hG hσ
    obtain ⟨f, rfl⟩ : ∃ f', f = f' + 1 := ⟨f - 1, by omega⟩
    have hk26 := hL.1
    have hc := hL.2.2.2.2.2.1
    have hlc := hL.2.2.2.2.1
    have hi : i = Gs.length := by omega
    subst hi
    refine ⟨M, ?_, fr.refl M, by rw [List.drop_length]; exact hσ⟩
    rw [L_X30_goes_30, xgR_v (t := l) (by rw [hk]; rfl) h123, xrk_u hk26]
    unfold m_J2_size
    rw [xgI_u (by rw [hk26]; rfl), hL.2.1, xob_v, if_pos (Int32.le_refl _)]
  | succ m ih =>
    intro i f M σ h0 h1 h2 hk h123 hoN hle hL hG hσ
    obtain ⟨f, rfl⟩ : ∃ f', f = f' + 1 := ⟨f - 1, by omega⟩
    have hk26 := hL.1
    have hc := hL.2.2.2.2.2.1
    have hlc := hL.2.2.2.2.1
    have hi : i < Gs.length := by omega
    obtain ⟨G, hGi⟩ : ∃ G, Gs[i]? = some G := ⟨_, List.getElem?_eq_getElem hi⟩
    have hst := hG i G hGi
    obtain ⟨M1, e1, f1, G1⟩ := hgo _ _ _ _ hst hσ
    obtain ⟨-, hgN, ci, hgk, hgc⟩ := hL.2.2.2.2.2.2.2 i hi
    have hn1 := f1.n
    have hci : [20, 21, 22, 23, 24, 25].contains ci = true := by
      obtain ⟨d, rfl⟩ : ∃ d', d = d' + 1 := by
        cases d with
        | zero => exact False.elim hst
        | succ d => exact ⟨d, rfl⟩
      rcases hst.2 with ⟨k, a, c, hv, hao, -⟩ | ⟨n, l, e, cap, g, Gs, -, hk25, -⟩
      · have := hao.1
        rw [hgk] at this
        have e2 : ci = 20 + k := congrArg Prod.snd this
        have hk5 := acV_k hv
        rcases (by omega : k = 0 ∨ k = 1 ∨ k = 2 ∨ k = 3 ∨ k = 4) with rfl | rfl | rfl | rfl | rfl <;> rw [e2] <;> rfl
      · rw [hgk] at hk25
        have e2 : ci = 25 := congrArg Prod.snd hk25
        rw [e2]; rfl
    obtain ⟨M2, e2, f2, G2⟩ := ih (i + 1) f M1 _ (by omega) (by omega) (by omega) ((f1.k hoN.2).trans hk) ((f1.r hoN.2 (fun z => z)).trans h123) ⟨hoN.1, by omega⟩ hle (hL.fz f1 (sWk_N hN) hle) (fun j G' hj => cStp_fr f1 (sWk_N hN) _ _ _ (hG j G' hj)) G1
    refine ⟨M2, ?_, f1.t0 f2, ?_⟩
    · rw [L_X30_goes_30, xgR_v (t := l) (by rw [hk]; rfl) h123, xrk_u hk26]
      unfold m_J2_size
      rw [xgI_u (by rw [hk26]; rfl), hL.2.1, xob_v, if_neg (show ¬ Int32.ofNat Gs.length ≤ Int32.ofNat i by rw [i_le (by omega) (by omega)]; omega), xgR_v (t := l) (by rw [hk]; rfl) h123, xrk_u hk26, rw_get hL hi, xob_v, xrc_u hgk hci, e1, xmb_v, i_succ]
      exact e2
    · have ed : Gs.drop i = G :: Gs.drop (i + 1) := by
        rw [List.drop_eq_getElem_cons hi]
        congr 1
        rw [List.getElem?_eq_getElem hi] at hGi
        exact Option.some.inj hGi
      rw [ed]
      exact G2
/-- again and again -/
theorem c_goRep {F0 : dwSt → Nat → Nat → Option (Unit × dwSt)} {l e cap d n : Nat} {g : Nat → Nat} {Gs : List (dgS → dgS)} {K : dwSt → Option ρ} (hN : ∀ a, N a → b + 562 ≤ a) (hn : n ≤ 60) (hid : idG (sqG Gs)) (hgo : ∀ o F M σ, cStp N M T lw d o F → cG b w M T lw σ → ∃ M', D_Step_goes F0 M o (b + 23) = some ((), M') ∧ fr (sWk b) nz 0 0 M M' ∧ cG b w M' T lw (F σ)) : ∀ m u f M σ, u + m = n → m < f → dwK M o = (0, 25) → dwI M o 122 = Int32.ofNat n → dwR M o 123 = some l → (N o ∧ o < dwN M) → (N l ∧ N e) → rwL M l Gs.length e cap g → (∀ i G, Gs[i]? = some G → cStp N M T lw d (g i) G) → cG b w M T lw σ → ∃ M', L_X30_goes_10 F0 o (b + 23) K f (Int32.ofNat u) M = K M' ∧ fr (sWk b) nz 0 0 M M' ∧ cG b w M' T lw (rpG (sqG Gs) m σ) := by
  intro m
  induction m with
  | zero =>
    intro u f M σ h1 h2 hk h122 h123 hoN hle hL hG hσ
    obtain ⟨f, rfl⟩ : ∃ f', f = f' + 1 := ⟨f - 1, by omega⟩
    refine ⟨M, ?_, fr.refl M, hσ⟩
    rw [L_X30_goes_10, xgI_u (by rw [hk]; rfl), h122, if_pos (show Int32.ofNat n ≤ Int32.ofNat u by rw [i_le (by omega) (by omega)]; omega)]
  | succ m ih =>
    intro u f M σ h1 h2 hk h122 h123 hoN hle hL hG hσ
    obtain ⟨f, rfl⟩ : ∃ f', f = f' + 1 := ⟨f - 1, by omega⟩
    have ks := hσ.2.2.1.1.2.1
    have h40 := hσ.2.2.2.2.2.1
    have h200 := hσ.2.2.2.2.1
    rw [L_X30_goes_10, xgI_u (by rw [hk]; rfl), h122, if_neg (show ¬ Int32.ofNat n ≤ Int32.ofNat u by rw [i_le (by omega) (by omega)]; omega), xgI_u (by rw [ks]; rfl), h40]
    by_cases c : σ.2.1 = 200
    · rw [if_pos (show (200 : Int32) ≤ Int32.ofNat σ.2.1 by rw [c]; decide)]
      exact ⟨M, rfl, fr.refl M, by rw [rpG_id hid _ σ c]; exact hσ⟩
    · rw [if_neg (show ¬ (200 : Int32) ≤ Int32.ofNat σ.2.1 by rw [show (200 : Int32) = Int32.ofNat 200 from rfl, i_le (by omega) (by omega)]; omega), jn_u]
      have hc := hL.2.2.2.2.2.1
      have hlc := hL.2.2.2.2.1
      obtain ⟨M1, e1, f1, G1⟩ := c_goSeq (K := fun (M6 : dwSt) => L_X30_goes_10 F0 o (b + 23) K f (Int32.ofNat u + 1) M6) (u2 := Int32.ofNat u) hN hgo Gs.length 0 1000000 M σ (Nat.zero_le _) (by omega) (by omega) hk h123 hoN hle hL hG hσ
      have hn1 := f1.n
      obtain ⟨M2, e2, f2, G2⟩ := ih (u + 1) f M1 _ (by omega) (by omega) ((f1.k hoN.2).trans hk) ((f1.i hoN.2 (sWk_N hN _ _ hoN.1).1).trans h122) ((f1.r hoN.2 (fun z => z)).trans h123) ⟨hoN.1, by omega⟩ hle (hL.fz f1 (sWk_N hN) hle) (fun j G' hj => cStp_fr f1 (sWk_N hN) _ _ _ (hG j G' hj)) G1
      refine ⟨M2, ?_, f1.t0 f2, G2⟩
      refine e1.trans ?_
      rw [i_succ]
      exact e2
/-- a step goes -/
theorem c_goes (hN : ∀ a, N a → b + 562 ≤ a) : ∀ d D, d ≤ D → ∀ o F M σ, cStp N M T lw d o F → cG b w M T lw σ → ∃ M', D_Step_goes (m_X30_goes D) M o (b + 23) = some ((), M') ∧ fr (sWk b) nz 0 0 M M' ∧ cG b w M' T lw (F σ) := by
  intro d
  induction d with
  | zero => intro D _ o F M σ h; exact False.elim h
  | succ d ih =>
    intro D hD o F M σ h hσ
    obtain ⟨D, rfl⟩ : ∃ D', D = D' + 1 := ⟨D - 1, by omega⟩
    obtain ⟨hoN, h⟩ := h
    have ne : ∀ ci ci' : Nat, ((0, ci) : Nat × Nat) = (0, ci') → ci = ci' := fun _ _ z => congrArg Prod.snd z
    rcases h with ⟨k, a, c, hv, ho, rfl⟩ | ⟨n, l, e, cap, g, Gs, hn, hk, h122, h123, hle, hL, hG, rfl⟩
    · have go := c_goAct hσ ho hv hN hoN
      have hk5 := acV_k hv
      have k0 := ho.1
      unfold D_Step_goes xsw
      rw [k0]
      rcases (by omega : k = 0 ∨ k = 1 ∨ k = 2 ∨ k = 3 ∨ k = 4) with rfl | rfl | rfl | rfl | rfl
      · rw [if_pos rfl]; exact go
      · rw [if_neg (fun z => by have := ne _ _ z; omega), if_pos rfl]; exact go
      · rw [if_neg (fun z => by have := ne _ _ z; omega), if_neg (fun z => by have := ne _ _ z; omega), if_pos rfl]; exact go
      · rw [if_neg (fun z => by have := ne _ _ z; omega), if_neg (fun z => by have := ne _ _ z; omega), if_neg (fun z => by have := ne _ _ z; omega), if_pos rfl]; exact go
      · rw [if_neg (fun z => by have := ne _ _ z; omega), if_neg (fun z => by have := ne _ _ z; omega), if_neg (fun z => by have := ne _ _ z; omega), if_neg (fun z => by have := ne _ _ z; omega), if_pos rfl]; exact go
    · unfold D_Step_goes xsw
      rw [hk, if_neg (fun z => by have := ne _ _ z; omega), if_neg (fun z => by have := ne _ _ z; omega), if_neg (fun z => by have := ne _ _ z; omega), if_neg (fun z => by have := ne _ _ z; omega), if_neg (fun z => by have := ne _ _ z; omega), if_pos rfl]
      show ∃ M', F_X30_goes (m_X30_goes D) M o (b + 23) = some ((), M') ∧ _
      obtain ⟨h1, h2, h3, h4, h5, h6, h7, h8⟩ := id hσ
      have ks := h3.1.2.1
      unfold F_X30_goes m_X23_may agG
      rw [xgI_u (by rw [ks]; rfl), h6]
      by_cases c200 : σ.2.1 = 200
      · rw [if_pos c200, if_pos (show Int32.ofNat σ.2.1 = 200 by rw [c200]; rfl), xmb_v, if_pos rfl]
        exact ⟨M, rfl, fr.refl M, hσ⟩
      · have ne2 : ¬ Int32.ofNat σ.2.1 = 200 := fun z => c200 ((i_inj (b := 200) (by omega) (by omega)).mp z)
        rw [if_neg c200, if_neg ne2, xgI_u (by rw [ks]; rfl), h6, i_succ, xpI_u (by rw [ks]; rfl), xmb_v, if_neg (show ¬ (1 : Int32) = 0 by decide), jn_u]
        have f1 : fr (sWk b) nz 0 0 M (dwPI M (b + 23) 40 (Int32.ofNat (σ.2.1 + 1))) := (fr.refl M).pI _ (Or.inl (Or.inl ⟨by omega, by omega⟩))
        have G1 : cG b w (dwPI M (b + 23) 40 (Int32.ofNat (σ.2.1 + 1))) T lw (σ.1, σ.2.1 + 1, σ.2.2) := ⟨cEnv_pI h1, h2, cSea_pI h3 (by omega), h4, by show σ.2.1 + 1 ≤ 200; omega, di_eq, by rw [di_ne (by omega)]; exact h7, by rw [di_ne (by omega)]; exact h8⟩
        have hid : idG (sqG Gs) := sqG_id Gs fun G hGm => by
          obtain ⟨i, hi⟩ := List.getElem?_of_mem hGm
          exact cStp_id _ _ _ (hG i G hi)
        obtain ⟨M2, e2, f2, G2⟩ := c_goRep (K := fun (M3 : dwSt) => (some ((), M3) : Option (Unit × dwSt))) hN hn hid (fun o F M σ h hσ => ih D (by omega) o F M σ h hσ) n 0 1000000 (dwPI M (b + 23) 40 (Int32.ofNat (σ.2.1 + 1))) _ (by omega) (by omega) ((f1.k hoN.2).trans hk) ((f1.i hoN.2 (sWk_N hN _ _ hoN.1).1).trans h122) ((f1.r hoN.2 (fun z => z)).trans h123) ⟨hoN.1, hoN.2⟩ hle (hL.fz f1 (sWk_N hN) hle) (fun j G' hj => cStp_fr f1 (sWk_N hN) _ _ _ (hG j G' hj)) G1
        exact ⟨M2, e2, f1.t0 f2, G2⟩
end GO
