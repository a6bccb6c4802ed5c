/-! A WORK: the component's steps, all; the twin goes -/
section GO
variable {b : Nat} {N : Nat → Prop} {w : Nat → Nat} {M : dwSt} {T : dvT} {lw : (Nat → Int32) → Int32} {o k a c : Nat} {ρ : Type}
theorem c_goAll {l e cap d : Nat} {g : Nat → Nat} {Gs : List (dgS → dgS)} {K : dwSt → Option ρ} (hN : ∀ a, N a → b + 562 ≤ a) (hd : d ≤ 40) : ∀ m i f M σ, i ≤ Gs.length → Gs.length - i = m → m < f → (N l ∧ N e) → rwL M l Gs.length e cap g → (∀ i G, Gs[i]? = some G → cStp N M T lw d (g i) G) → cG b w M T lw σ → ∃ M', L_X1_work_124 b l K f (Int32.ofNat i) M = K M' ∧ fr (sWk b) nz 0 0 M M' ∧ cG b w M' T lw (sqG (Gs.drop i) σ) := by
  intro m
  induction m with
  | zero =>
    intro i f M σ h0 h1 h2 hle hL hG hσ
    obtain ⟨f, rfl⟩ : ∃ f', f = f' + 1 := ⟨f - 1, by omega⟩
    have hk26 := hL.1
    have hi : i = Gs.length := by omega
    subst hi
    refine ⟨M, ?_, fr.refl M, by rw [List.drop_length]; exact hσ⟩
    rw [L_X1_work_124, xrk_u hk26]
    unfold m_J2_size
    rw [xgI_u (by rw [hk26]; rfl), hL.2.1, xob_v, if_pos (Int32.le_refl _)]
  | succ m ih =>
    intro i f M σ h0 h1 h2 hle hL hG hσ
    obtain ⟨f, rfl⟩ : ∃ f', f = f' + 1 := ⟨f - 1, by omega⟩
    have hk26 := hL.1
    have hc := hL.2.2.2.2.2.1
    have hlc := hL.2.2.2.2.1
    have hi : i < Gs.length := by omega
    have sh := hσ.1.1
    obtain ⟨G, hGi⟩ : ∃ G, Gs[i]? = some G := ⟨_, List.getElem?_eq_getElem hi⟩
    have hst := hG i G hGi
    obtain ⟨M1, e1, f1, G1⟩ := c_goes hN d 40 hd _ _ _ _ hst hσ
    obtain ⟨-, hgN, ci, hgk, hgc⟩ := hL.2.2.2.2.2.2.2 i hi
    have hn1 := f1.n
    have hci : [20, 21, 22, 23, 24, 25].contains ci = true := by
      obtain ⟨d, rfl⟩ : ∃ d', d = d' + 1 := by
        cases d with
        | zero => exact False.elim hst
        | succ d => exact ⟨d, rfl⟩
      rcases hst.2 with ⟨k, a, c, hv, hao, -⟩ | ⟨n, l, e, cap, g, Gs, -, hk25, -⟩
      · have := hao.1
        rw [hgk] at this
        have e2 : ci = 20 + k := congrArg Prod.snd this
        have hk5 := acV_k hv
        rcases (by omega : k = 0 ∨ k = 1 ∨ k = 2 ∨ k = 3 ∨ k = 4) with rfl | rfl | rfl | rfl | rfl <;> rw [e2] <;> rfl
      · rw [hgk] at hk25
        have e2 : ci = 25 := congrArg Prod.snd hk25
        rw [e2]; rfl
    obtain ⟨M2, e2, f2, G2⟩ := ih (i + 1) f M1 _ (by omega) (by omega) (by omega) hle (hL.fz f1 (sWk_N hN) hle) (fun j G' hj => cStp_fr f1 (sWk_N hN) _ _ _ (hG j G' hj)) G1
    refine ⟨M2, ?_, f1.t0 f2, ?_⟩
    · rw [L_X1_work_124, xrk_u hk26]
      unfold m_J2_size
      rw [xgI_u (by rw [hk26]; rfl), hL.2.1, xob_v, if_neg (show ¬ Int32.ofNat Gs.length ≤ Int32.ofNat i by rw [i_le (by omega) (by omega)]; omega), xrk_u hk26, rw_get hL hi, xob_v, xrc_u hgk hci, xgR_v (t := b + 23) (by rw [kd0 sh]; rfl) (pt0_5 sh), e1, xmb_v, i_succ]
      exact e2
    · have ed : Gs.drop i = G :: Gs.drop (i + 1) := by
        rw [List.drop_eq_getElem_cons hi]
        congr 1
        rw [List.getElem?_eq_getElem hi] at hGi
        exact Option.some.inj hGi
      rw [ed]
      exact G2
end GO
def tSq (P : Nat → Nat → (dgS → dgS) → Prop) : Nat → Nat → List (dgS → dgS) → Prop
  | i, j, [] => i = j
  | i, j, G :: Gs => ∃ m, P i m G ∧ tSq P m j Gs
/-- rows from i up to j do F -/
def tStp (b : Nat) (M : dwSt) (T : dvT) (lw : (Nat → Int32) → Int32) : Nat → Nat → Nat → (dgS → dgS) → Prop
  | 0, _, _, _ => False
  | d + 1, i, j, F => (i < j ∧ j ≤ 80 ∧ dwI M (b + 454 + i) 3 = Int32.ofNat j) ∧ ((∃ k a c, acV T k a c ∧ tRw M (b + 454 + i) k a c ∧ F = stG T lw k a c) ∨ (∃ n Gs, n ≤ 60 ∧ dwI M (b + 454 + i) 0 = 5 ∧ dwI M (b + 454 + i) 1 = Int32.ofNat n ∧ tSq (tStp b M T lw d) (i + 1) j Gs ∧ F = agG n (sqG Gs)))
theorem tSq_mono {P Q : Nat → Nat → (dgS → dgS) → Prop} (h : ∀ i j F, P i j F → Q i j F) : ∀ Gs i j, tSq P i j Gs → tSq Q i j Gs
  | [], i, j, e => e
  | G :: Gs, i, j, ⟨m, h1, h2⟩ => ⟨m, h i m G h1, tSq_mono h Gs m j h2⟩
theorem tSq_le {P : Nat → Nat → (dgS → dgS) → Prop} (h : ∀ i j F, P i j F → i < j) : ∀ Gs i j, tSq P i j Gs → i + Gs.length ≤ j
  | [], i, j, e => Nat.le_of_eq e
  | G :: Gs, i, j, ⟨m, h1, h2⟩ => by
    have := h i m G h1
    have := tSq_le h Gs m j h2
    rw [List.length_cons]; omega
theorem tSq_app {P : Nat → Nat → (dgS → dgS) → Prop} : ∀ Gs i m j G, tSq P i m Gs → P m j G → tSq P i j (Gs ++ [G])
  | [], i, m, j, G, e, h => by
    have e' : i = m := e
    subst e'
    exact ⟨j, h, rfl⟩
  | G' :: Gs, i, m, j, G, ⟨q, h1, h2⟩, h => ⟨q, h1, tSq_app Gs q m j G h2 h⟩
theorem tSq_id {P : Nat → Nat → (dgS → dgS) → Prop} (h : ∀ i j F, P i j F → idG F) : ∀ Gs i j, tSq P i j Gs → idG (sqG Gs)
  | [], i, j, _ => fun σ _ => rfl
  | G :: Gs, i, j, ⟨m, h1, h2⟩ => fun σ hσ => by
    rw [sqG, h i m G h1 σ hσ]
    exact tSq_id h Gs m j h2 σ hσ
section TGO
variable {b : Nat} {M : dwSt} {T : dvT} {lw : (Nat → Int32) → Int32} {ρ : Type}
theorem tStp_lt {d i j : Nat} {F : dgS → dgS} (h : tStp b M T lw d i j F) : i < j := by
  cases d with
  | zero => exact False.elim h
  | succ d => exact h.1.1
theorem tStp_id {d i j : Nat} {F : dgS → dgS} (h : tStp b M T lw d i j F) : idG F := by
  cases d with
  | zero => exact False.elim h
  | succ d =>
    rcases h.2 with ⟨k, a, c, -, -, e⟩ | ⟨n, Gs, -, -, -, -, e⟩
    · rw [e]; exact stG_id
    · rw [e]; exact agG_id
theorem tStp_le : ∀ d d' i j F, d ≤ d' → tStp b M T lw d i j F → tStp b M T lw d' i j F := by
  intro d
  induction d with
  | zero => intro d' i j F _ h; exact False.elim h
  | succ d ih =>
    intro d' i j F hd h
    obtain ⟨d', rfl⟩ : ∃ x, d' = x + 1 := ⟨d' - 1, by omega⟩
    refine ⟨h.1, ?_⟩
    rcases h.2 with h | ⟨n, Gs, h1, h2, h3, h4, h5⟩
    · exact Or.inl h
    · exact Or.inr ⟨n, Gs, h1, h2, h3, tSq_mono (fun i j F h => ih d' i j F (by omega) h) _ _ _ h4, h5⟩
/-- rows below n stay -/
theorem tStp_fr {M' : dwSt} {lo hi : Nat} (he : ∀ x k, lo ≤ x → x < hi → dwI M' (b + 454 + x) k = dwI M (b + 454 + x) k) : ∀ d i j F, lo ≤ i → j ≤ hi → tStp b M T lw d i j F → tStp b M' T lw d i j F := by
  intro d
  induction d with
  | zero => intro i j F _ _ h; exact h
  | succ d ih =>
    intro i j F hl hj ⟨⟨h1, h2, h3⟩, h⟩
    have e := fun k => he i k hl (by omega)
    refine ⟨⟨h1, h2, (e 3).trans h3⟩, ?_⟩
    rcases h with ⟨k, a, c, h4, ⟨h5, h6, h7⟩, h8⟩ | ⟨n, Gs, h4, h5, h6, h7, h8⟩
    · exact Or.inl ⟨k, a, c, h4, ⟨(e 0).trans h5, fun z => (e 1).trans (h6 z), fun z => (e 2).trans (h7 z)⟩, h8⟩
    · refine Or.inr ⟨n, Gs, h4, (e 0).trans h5, (e 1).trans h6, ?_, h8⟩
      have go : ∀ (Gs : List (dgS → dgS)) (i' : Nat), i + 1 ≤ i' → tSq (tStp b M T lw d) i' j Gs → tSq (tStp b M' T lw d) i' j Gs := by
        intro Gs
        induction Gs with
        | nil => intro i' _ h; exact h
        | cons G Gs ihg =>
          intro i' hi' ⟨m, g1, g2⟩
          have l1 := tStp_lt g1
          have l2 := tSq_le (fun i j F h => tStp_lt h) _ _ _ g2
          exact ⟨m, ih i' m G (by omega) (by omega) g1, ihg m (by omega) g2⟩
      exact go Gs (i + 1) (Nat.le_refl _) h7
theorem tSq_fr {M' : dwSt} {lo hi d : Nat} (he : ∀ x k, lo ≤ x → x < hi → dwI M' (b + 454 + x) k = dwI M (b + 454 + x) k) : ∀ Gs i j, lo ≤ i → j ≤ hi → tSq (tStp b M T lw d) i j Gs → tSq (tStp b M' T lw d) i j Gs := by
  intro Gs
  induction Gs with
  | nil => intro i j _ _ h; exact h
  | cons G Gs ih =>
    intro i j hl hj ⟨m, g1, g2⟩
    have l1 := tStp_lt g1
    have l2 := tSq_le (fun i j F h => tStp_lt h) _ _ _ g2
    exact ⟨m, tStp_fr he d i m G hl (by omega) g1, ih m j (by omega) hj g2⟩
def sTgo (b : Nat) : Nat → Nat → Prop := fun x k => x = b + 534 ∨ x = b + 451 ∨ x = b + 452 ∨ (x = b + 54 ∧ (k = 79 ∨ k = 82 ∨ k = 83))
def tG (b : Nat) (M : dwSt) (T : dvT) (lw : (Nat → Int32) → Int32) (σ : dgS) : Prop := tEnv b M T lw ∧ tOK T ∧ dwI M (b + 534) = σ.1 ∧ σ.2.1 ≤ 200 ∧ dwI M (b + 54) 82 = Int32.ofNat σ.2.1 ∧ dwI M (b + 54) 83 = σ.2.2.1 ∧ dwI M (b + 54) 79 = σ.2.2.2
theorem sTgo_f : tFree b (sTgo b) := fun x k q => by unfold sTgo at q; omega
theorem row_fr {M' : dwSt} (hs : Sh b M) (f : fr (sTgo b) nz 0 0 M M') : ∀ x k, 0 ≤ x → x < 80 → dwI M' (b + 454 + x) k = dwI M (b + 454 + x) k := fun x k _ hx => f.i (by have := shN hs; omega) (by unfold sTgo; omega)
end TGO
