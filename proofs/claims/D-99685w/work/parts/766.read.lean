/-! A LAND read: the component's clause, whole -/
section LAND
variable {b : Nat} {M : dwSt} {A : dvA} {ρ : Type} {N L : Nat} {T : dvT} {c q : Nat}
theorem lC_s {s p : Nat} {M1 : dwSt} {n u : Nat} (h : lC b M A N L T c p) (hs : b + 562 ≤ s ∧ dwK M s = (0, 28)) (f : fr (sPs s) nz n u M M1) : lC b M1 A N L T c p := by
  have hk := h.1.2.1.2.2.2.1
  have hne := kne hk hs.2 (by omega)
  exact lC_to h f (fun a k _ z => Or.inr (by have := z.1; subst this; exact ⟨hs.2, hs.1⟩)) (fun _ _ _ z => z) (h.1.fr f (fun a k z => by have := z.1; exact ⟨by omega, fun e => by omega⟩) (fun _ _ z => False.elim z))
theorem swFull_cases (ws : List Nat) : (swv ws swLand = 0 ∧ swv ws swFull = 0) ∨ (swv ws swLand = 1 ∧ swv ws swFull = 1) ∨ (swv ws swLand = 2 ∧ swv ws swFull = 2) ∨ ((¬ swv ws swLand = 0 ∧ ¬ swv ws swLand = 1 ∧ ¬ swv ws swLand = 2) ∧ swv ws swFull = -1) := by
  rcases swLand_cases ws with ⟨rfl, h⟩ | ⟨rfl, h⟩ | ⟨rfl, h⟩ | ⟨rfl, h⟩ | ⟨rfl, h⟩ | ⟨h, h2, -⟩
  · exact Or.inl ⟨h, by decide⟩
  · exact Or.inr (Or.inl ⟨h, by decide⟩)
  · exact Or.inr (Or.inr (Or.inl ⟨h, by decide⟩))
  · exact Or.inr (Or.inr (Or.inr ⟨by rw [h]; decide, by decide⟩))
  · exact Or.inr (Or.inr (Or.inr ⟨by rw [h]; decide, by decide⟩))
  · exact Or.inr (Or.inr (Or.inr ⟨by rw [h]; decide, h2⟩))
/-- what isFull says -/
def fuZ (b : Nat) (M : dwSt) (s : Nat) (ws : List Nat) (T : dvT) (c : Nat) (z : Option (Int32 × dwSt)) : Prop := ∃ v M2, z = some (v, M2) ∧ fr (sPs s) nz 0 0 M M2 ∧ strO b M2 s ws ∧ ((v = 1 ∧ fulS T c (swv ws swLand)) ∨ (v = 0 ∧ ¬ fulS T c (swv ws swLand)))
theorem c_isFull {s : Nat} {ws : List Nat} (h : lC b M A N L T c q) (hs : strO b M s ws) (hw : ws.length ≤ 10) (hsm : ∀ c ∈ ws, smN c) : fuZ b M s ws T c (m_X12_isFull M N s) := by
  have hk := h.1.2.1.2.2.2.1
  have T1 := h.2.2.1
  have hT := h.2.2.2.2.1
  have hc60 := h.2.2.2.2.2.1
  have hb := h.1.2.1.2.1
  have hN := h.1.2.1.1
  obtain ⟨vs, ⟨ks, rs⟩, rs2⟩ := id hs
  have hbs := rs2.2.2.2.1
  obtain ⟨M2, e2, f2, s2⟩ := c_hash hs hw hsm
  have h2 := lC_s h ⟨hbs.1, ks⟩ f2
  have ks2 : dwK M2 s = (0, 28) := (f2.k rs2.2.2.2.2.1).trans ks
  have hk2 := h2.1.2.1.2.2.2.1
  have T2 := h2.2.2.1
  obtain ⟨e1', c1', g1', e2', c2', g2', w1', -, w2', -⟩ := T2.2.2.2.2.2.2.2
  have i60 : (Int32.ofNat c = 60) ↔ c = 60 := by rw [show (60 : Int32) = Int32.ofNat 60 from rfl, i_inj (by omega) (by omega)]
  have iP : (Int32.ofNat (tP T) = 7) ↔ tP T = 7 := by rw [show (7 : Int32) = Int32.ofNat 7 from rfl, i_inj (by have := hT.1; omega) (by omega)]
  have iJ : (Int32.ofNat (tJ T) = 6) ↔ tJ T = 6 := by rw [show (6 : Int32) = Int32.ofNat 6 from rfl, i_inj (by have := hT.2.1; omega) (by omega)]
  have iS : (Int32.ofNat (tS T) = 12) ↔ tS T = 12 := by rw [show (12 : Int32) = Int32.ofNat 12 from rfl, i_inj (by have := hT.2.2.1; omega) (by omega)]
  unfold m_X12_isFull
  rw [xgR_v (by rw [hk]; rfl) h.2.1, xgI_u (by rw [T1.2.1]; rfl), h.2.2.2.1]
  by_cases c60 : c = 60
  · rw [if_pos (i60.mpr c60)]
    exact ⟨1, M, rfl, fr.refl M, hs, Or.inl ⟨rfl, Or.inl c60⟩⟩
  · rw [if_neg (fun z => c60 (i60.mp z)), xrk_u ks, e2, xmb_v]
    have done : ∀ (v : Int32), (v = 1 ∧ fulS T c (swv ws swLand)) ∨ (v = 0 ∧ ¬ fulS T c (swv ws swLand)) → fuZ b M s ws T c (some (v, M2)) := fun v hv => ⟨v, M2, rfl, f2, s2, hv⟩
    refine jn_s (E := fuZ b M s ws T c) (Q := fun J => fuZ b M s ws T c (J (swv ws swFull))) ?_ ?_
    · rcases swFull_cases ws with ⟨h1, h2'⟩ | ⟨h1, h2'⟩ | ⟨h1, h2'⟩ | ⟨h1, h2'⟩
      · rw [h2', if_pos rfl, xgR_v (by rw [hk2]; rfl) h2.2.1, xgR_v (by rw [T2.2.1]; rfl) T2.2.2.1.1, xrk_u w1'.1]
        unfold m_J2_size
        rw [xgI_u (by rw [w1'.1]; rfl), w1'.2.1, xob_v]
        by_cases d : tP T = 7
        · rw [if_pos (iP.mpr d)]; exact done 1 (Or.inl ⟨rfl, Or.inr (Or.inl ⟨h1, d⟩)⟩)
        · rw [if_neg (fun z => d (iP.mp z))]
          refine done 0 (Or.inr ⟨rfl, fun z => ?_⟩)
          rcases z with z | ⟨z, z'⟩ | ⟨z, z'⟩ | ⟨z, z'⟩
          · exact c60 z
          · exact d z'
          · rw [h1] at z; exact absurd z (by decide)
          · rw [h1] at z; exact absurd z (by decide)
      · rw [h2', if_neg (by decide), if_pos rfl, xgR_v (by rw [hk2]; rfl) h2.2.1, xgR_v (by rw [T2.2.1]; rfl) T2.2.2.1.2.1, xrk_u w2'.1]
        unfold m_J2_size
        rw [xgI_u (by rw [w2'.1]; rfl), w2'.2.1, xob_v]
        by_cases d : tJ T = 6
        · rw [if_pos (iJ.mpr d)]; exact done 1 (Or.inl ⟨rfl, Or.inr (Or.inr (Or.inl ⟨h1, d⟩))⟩)
        · rw [if_neg (fun z => d (iJ.mp z))]
          refine done 0 (Or.inr ⟨rfl, fun z => ?_⟩)
          rcases z with z | ⟨z, z'⟩ | ⟨z, z'⟩ | ⟨z, z'⟩
          · exact c60 z
          · rw [h1] at z; exact absurd z (by decide)
          · exact d z'
          · rw [h1] at z; exact absurd z (by decide)
      · rw [h2', if_neg (by decide), if_neg (by decide), if_pos rfl, xgR_v (by rw [hk2]; rfl) h2.2.1, xgI_u (by rw [T2.2.1]; rfl), T2.2.2.2.2.2.2.1.1]
        by_cases d : tS T = 12
        · rw [if_pos (iS.mpr d)]; exact done 1 (Or.inl ⟨rfl, Or.inr (Or.inr (Or.inr ⟨h1, d⟩))⟩)
        · rw [if_neg (fun z => d (iS.mp z))]
          refine done 0 (Or.inr ⟨rfl, fun z => ?_⟩)
          rcases z with z | ⟨z, z'⟩ | ⟨z, z'⟩ | ⟨z, z'⟩
          · exact c60 z
          · rw [h1] at z; exact absurd z (by decide)
          · rw [h1] at z; exact absurd z (by decide)
          · exact d z'
      · rw [h2', if_neg (by decide), if_neg (by decide), if_neg (by decide)]
        refine done 0 (Or.inr ⟨rfl, fun z => ?_⟩)
        rcases z with z | ⟨z, z'⟩ | ⟨z, z'⟩ | ⟨z, z'⟩
        · exact c60 z
        · exact h1.1 z
        · exact h1.2.1 z
        · exact h1.2.2 z
    · intro K hK
      show fuZ b M s ws T c (swc M2 s (hsF 0 ws) K swFull)
      rw [sw_eq h2.2.2.2.2.2.2 s2 hw hsm swFull swFull_ok]
      exact hK
theorem ite5 {y : Int32} {B W : Option ρ} : (if y = 0 then B else if y = 1 then B else if y = 2 then B else if y = 3 then B else if y = 4 then B else W) = if y = 0 ∨ y = 1 ∨ y = 2 ∨ y = 3 ∨ y = 4 then B else W := by
  by_cases h0 : y = 0
  · rw [if_pos h0, if_pos (Or.inl h0)]
  by_cases h1 : y = 1
  · rw [if_neg h0, if_pos h1, if_pos (Or.inr (Or.inl h1))]
  by_cases h2 : y = 2
  · rw [if_neg h0, if_neg h1, if_pos h2, if_pos (Or.inr (Or.inr (Or.inl h2)))]
  by_cases h3 : y = 3
  · rw [if_neg h0, if_neg h1, if_neg h2, if_pos h3, if_pos (Or.inr (Or.inr (Or.inr (Or.inl h3))))]
  by_cases h4 : y = 4
  · rw [if_neg h0, if_neg h1, if_neg h2, if_neg h3, if_pos h4, if_pos (Or.inr (Or.inr (Or.inr (Or.inr h4))))]
  · rw [if_neg h0, if_neg h1, if_neg h2, if_neg h3, if_neg h4, if_neg (fun z => by rcases z with z | z | z | z | z <;> contradiction)]
theorem laC_bad {X : Nat → Nat} {e : Nat × Nat} (h : laW X L T c q = .inr e) : laC X L T c q = .inr e := by
  have hA : laA X L T c q = .inr e := by unfold laA; rw [h]; rfl
  have hB : laB X L T c q = .inr e := by unfold laB; rw [hA]; rfl
  unfold laC laQ
  rw [hA, hB]
  split
  · rfl
  · split
    · rfl
    · rfl
theorem c_clause {s : Nat} (h : lC b M A N L T c q) (hs : strO b M s ((wdS (xbN A) L q).take 10)) (hNs : N ≤ s) (hR : room M 3 200) : clR b A N L (laT (xbN A) L T c q) c (laC (xbN A) L T c q) M 3 200 (m_X12_clause M N s) := by
  have hk := h.1.2.1.2.2.2.1
  have hb := h.1.2.1.2.1
  have hN := h.1.2.1.1
  have hqL := h.1.2.2.2.1
  have hL600 : L ≤ 600 := Nat.le_trans h.1.2.2.2.2 h.1.1.2.1
  have hw : ((wdS (xbN A) L q).take 10).length ≤ 10 := List.length_take_le _ _
  have hwl := wdS_le (X := xbN A) (L := L) _ q rfl hqL
  have hsm : ∀ c ∈ (wdS (xbN A) L q).take 10, smN c := fun c hc => wdS_sm (X := xbN A) (L := L) _ q rfl c (List.mem_of_mem_take hc)
  have hlen : ∀ cs : List Nat, (wdS (xbN A) L q).take 10 = cs → cs.length < 10 → (wdS (xbN A) L q).length = cs.length := fun cs e hc => by
    have hl := congrArg List.length e
    rw [List.length_take] at hl
    omega
  have hKdef : laK (xbN A) L q = swv ((wdS (xbN A) L q).take 10) swLand := rfl
  generalize hws : (wdS (xbN A) L q).take 10 = ws at *
  obtain ⟨vs, ⟨ks, rs⟩, rs2⟩ := id hs
  have hbs := rs2.2.2.2.1
  obtain ⟨M2, e2, f2, s2⟩ := c_hash hs hw hsm
  have h2 := lC_s h ⟨hbs.1, ks⟩ f2
  have ks2 : dwK M2 s = (0, 28) := (f2.k rs2.2.2.2.2.1).trans ks
  have hk2 := h2.1.2.1.2.2.2.1
  have hR2 : room M2 3 200 := (hR.le (n' := 0 + 3) (u' := 0 + 200) (by omega) (by omega)).fr f2
  have hn2 := f2.n
  have sN : ∀ a k, sPs s a k → N ≤ a := fun a k z => by have := z.1; omega
  unfold m_X12_clause
  rw [xrk_u ks, e2, xmb_v]
  refine jn_s (E := clR b A N L (laT (xbN A) L T c q) c (laC (xbN A) L T c q) M 3 200) (Q := fun J => clR b A N L (laT (xbN A) L T c q) c (laC (xbN A) L T c q) M 3 200 (J (swv ws swLand))) ?_ ?_
  · rw [ite5]
    have bad : swv ws swLand = -1 → clR b A N L (laT (xbN A) L T c q) c (laC (xbN A) L T c q) M 3 200 (xrk M2 N 4 (xmb (m_X11_wrong M2 N) (fun v354 M355 => xrk0 M355 v354 5 ((fun cl q M => some (.inr (cl, q), M)) 0 v354 M355)))) := by
      intro hz
      have hW : laW (xbN A) L T c q = .inr (1, q) := by unfold laW; rw [hKdef, hz, if_pos rfl]
      rw [laC_bad hW, xrk_u hk2]
      exact (bdC.pre (c_badw (α := Unit) (N := N) (by omega) h2.1.2.1 h2.1.2.2.1 (hR2.le (by omega) (by omega))) f2 sN (fun _ _ z => False.elim z)).le (by omega) (by omega)
    have good : ∀ (y : Int32), ¬ y = -1 → swv ws swLand = y → ws.length < 10 → (∀ (M10 : dwSt), lC b M10 A N L T c (q + ws.length) → room M10 3 200 → laW (xbN A) L T c q = .inl (q + ws.length) → ¬ fulS T c y → (∀ Z : dwR9 Unit, clR b A N L (laT (xbN A) L T c q) c (laC (xbN A) L T c q) M10 3 200 Z → clR b A N L (laT (xbN A) L T c q) c (laC (xbN A) L T c q) M 3 200 Z) → clR b A N L (laT (xbN A) L T c q) c (laC (xbN A) L T c q) M 3 200 ((fun (y11 : Int32) => if y11 = 0 then xrk M10 N 4 (xth (m_X11_number M10 N 0 3) (fun v12 M13 => xgR M13 95 N (fun v14 => xgR M13 23 v14 (fun v15 => xnew M13 6 (fun o16 M17 => xrk M17 N 4 (xth (m_X11_number M17 N 0 9) (fun v18 M19 => xmb (m_X14_init M19 o16 v12 v18) (fun _ M21 => xrk M21 v15 26 (xmb (m_J2_add M21 v15 o16) (fun v22 M23 => some (.inl (), M23))))) (fun cl q M => some (.inr (cl, q), M))))))) (fun cl q M => some (.inr (cl, q), M))) else if y11 = 1 then xrk M10 N 4 (xth (m_X11_number M10 N 0 9) (fun v24 M25 => xgR M25 95 N (fun v26 => xgR M25 24 v26 (fun v27 => xnew M25 7 (fun o28 M29 => xrk M29 N 4 (xth (m_X11_number M29 N 1 20) (fun v30 M31 => xmb (m_X15_init M31 o28 v24 v30) (fun _ M33 => xrk M33 v27 26 (xmb (m_J2_add M33 v27 o28) (fun v34 M35 => some (.inl (), M35))))) (fun cl q M => some (.inr (cl, q), M))))))) (fun cl q M => some (.inr (cl, q), M))) else if y11 = 2 then xgR M10 95 N (fun v36 => xgR M10 23 v36 (fun v37 => xrk M10 v37 26 (xob (m_J2_size M10 v37) (fun v38 => xrk M10 N 4 (xth (m_X11_number M10 N 0 (v38 - 1)) (fun v39 M40 => xgR M40 95 N (fun v41 => xgR M40 23 v41 (fun v42 => xrk M40 v42 26 (xob (m_J2_size M40 v42) (fun v43 => xrk M40 N 4 (xth (m_X11_number M40 N 0 (v43 - 1)) (fun v44 M45 => jn (fun (_u : Unit) => xnew M45 5 (fun o46 M47 => xgI M47 93 N (fun v48 => xmb (m_X13_init M47 o46 2 v48) (fun _ M50 => xrk0 M50 o46 5 ((fun cl q M => some (.inr (cl, q), M)) 0 o46 M50))))) (fun j477 => if v39 = v44 then j477 () else xgR M45 95 N (fun v51 => xgR M45 25 v51 (fun v52 => xaI M45 v52 v39 (fun v53 => if ((v53 >>> (v44 &&& 31)) &&& 1) = 1 then j477 () else xgR M45 95 N (fun v54 => xrk M45 v54 1 (xmb (m_X2_leads M45 v54 v39 v44) (fun _ M56 => some (.inl (), M56))))))))) (fun cl q M => some (.inr (cl, q), M)))))))) (fun cl q M => some (.inr (cl, q), M))))))) else if y11 = 3 then xgR M10 95 N (fun v57 => xrk M10 N 4 (xth (m_X11_number M10 N 0 200) (fun v58 M59 => xpI M59 29 v57 v58 (fun M60 => some (.inl (), M60))) (fun cl q M => some (.inr (cl, q), M)))) else xgR M10 95 N (fun v61 => xrk M10 N 4 (xth (m_X11_number M10 N 0 9) (fun v62 M63 => xpI M63 30 v61 v62 (fun M64 => some (.inl (), M64))) (fun cl q M => some (.inr (cl, q), M))))) (swv ws swLand2))) → clR b A N L (laT (xbN A) L T c q) c (laC (xbN A) L T c q) M 3 200 (xrk M2 N 4 (xmb (m_X12_isFull M2 N s) (fun v4 M5 => if v4 = 0 then xgI M5 92 N (fun v6 => xrk M5 s 28 (xob (m_J9_length M5 s) (fun v7 => xpI M5 92 N (v6 + v7) (fun M8 => xrk M8 s 28 (xmb (m_J9_hashCode M8 s) (fun v9 M10 => jn (fun (y11 : Int32) => if y11 = 0 then xrk M10 N 4 (xth (m_X11_number M10 N 0 3) (fun v12 M13 => xgR M13 95 N (fun v14 => xgR M13 23 v14 (fun v15 => xnew M13 6 (fun o16 M17 => xrk M17 N 4 (xth (m_X11_number M17 N 0 9) (fun v18 M19 => xmb (m_X14_init M19 o16 v12 v18) (fun _ M21 => xrk M21 v15 26 (xmb (m_J2_add M21 v15 o16) (fun v22 M23 => some (.inl (), M23))))) (fun cl q M => some (.inr (cl, q), M))))))) (fun cl q M => some (.inr (cl, q), M))) else if y11 = 1 then xrk M10 N 4 (xth (m_X11_number M10 N 0 9) (fun v24 M25 => xgR M25 95 N (fun v26 => xgR M25 24 v26 (fun v27 => xnew M25 7 (fun o28 M29 => xrk M29 N 4 (xth (m_X11_number M29 N 1 20) (fun v30 M31 => xmb (m_X15_init M31 o28 v24 v30) (fun _ M33 => xrk M33 v27 26 (xmb (m_J2_add M33 v27 o28) (fun v34 M35 => some (.inl (), M35))))) (fun cl q M => some (.inr (cl, q), M))))))) (fun cl q M => some (.inr (cl, q), M))) else if y11 = 2 then xgR M10 95 N (fun v36 => xgR M10 23 v36 (fun v37 => xrk M10 v37 26 (xob (m_J2_size M10 v37) (fun v38 => xrk M10 N 4 (xth (m_X11_number M10 N 0 (v38 - 1)) (fun v39 M40 => xgR M40 95 N (fun v41 => xgR M40 23 v41 (fun v42 => xrk M40 v42 26 (xob (m_J2_size M40 v42) (fun v43 => xrk M40 N 4 (xth (m_X11_number M40 N 0 (v43 - 1)) (fun v44 M45 => jn (fun (_u : Unit) => xnew M45 5 (fun o46 M47 => xgI M47 93 N (fun v48 => xmb (m_X13_init M47 o46 2 v48) (fun _ M50 => xrk0 M50 o46 5 ((fun cl q M => some (.inr (cl, q), M)) 0 o46 M50))))) (fun j477 => if v39 = v44 then j477 () else xgR M45 95 N (fun v51 => xgR M45 25 v51 (fun v52 => xaI M45 v52 v39 (fun v53 => if ((v53 >>> (v44 &&& 31)) &&& 1) = 1 then j477 () else xgR M45 95 N (fun v54 => xrk M45 v54 1 (xmb (m_X2_leads M45 v54 v39 v44) (fun _ M56 => some (.inl (), M56))))))))) (fun cl q M => some (.inr (cl, q), M)))))))) (fun cl q M => some (.inr (cl, q), M))))))) else if y11 = 3 then xgR M10 95 N (fun v57 => xrk M10 N 4 (xth (m_X11_number M10 N 0 200) (fun v58 M59 => xpI M59 29 v57 v58 (fun M60 => some (.inl (), M60))) (fun cl q M => some (.inr (cl, q), M)))) else xgR M10 95 N (fun v61 => xrk M10 N 4 (xth (m_X11_number M10 N 0 9) (fun v62 M63 => xpI M63 30 v61 v62 (fun M64 => some (.inl (), M64))) (fun cl q M => some (.inr (cl, q), M))))) (fun j309 => if v9 = (-991716523) then xrk M10 s 28 (xob (m_J9_equals M10 s (dwX M10 3)) (fun v65 => if v65 = 0 then j309 (-1) else j309 0)) else if v9 = (-891990013) then xrk M10 s 28 (xob (m_J9_equals M10 s (dwX M10 5)) (fun v66 => if v66 = 0 then j309 (-1) else j309 2)) else if v9 = 105596 then xrk M10 s 28 (xob (m_J9_equals M10 s (dwX M10 6)) (fun v67 => if v67 = 0 then j309 (-1) else j309 3)) else if v9 = 3267935 then xrk M10 s 28 (xob (m_J9_equals M10 s (dwX M10 4)) (fun v68 => if v68 = 0 then j309 (-1) else j309 1)) else j309 (-1)))))))) else xnew M5 5 (fun o69 M70 => xgI M70 92 N (fun v71 => xmb (m_X13_init M70 o69 3 v71) (fun _ M73 => xrk0 M73 o69 5 ((fun cl q M => some (.inr (cl, q), M)) 0 o69 M73))))))) := by
      intro y hy hyv hwl9 hrest
      obtain ⟨v, M5, e5, f5, s5, hv⟩ := c_isFull h2 s2 hw hsm
      have h5 := lC_s h2 ⟨hbs.1, ks2⟩ f5
      have hk5 := h5.1.2.1.2.2.2.1
      have hn5 := f5.n
      have F5 := f2.t0 f5
      have hR5 : room M5 3 200 := (hR2.le (n' := 0 + 3) (u' := 0 + 200) (by omega) (by omega)).fr f5
      have ks5 : dwK M5 s = (0, 28) := (f5.k (by have := f2.n; omega)).trans ks2
      rw [xrk_u hk2, e5, xmb_v]
      rcases hv with ⟨hv, hful⟩ | ⟨hv, hful⟩
      · have hW : laW (xbN A) L T c q = .inr (3, q) := by unfold laW; rw [hKdef, hyv, if_neg hy, if_pos (hyv ▸ hful)]
        rw [hv, if_neg (by decide), laC_bad hW]
        exact (bdC.pre (c_bad (α := Unit) (k := 3) (N := N) (M1 := M5) (o := N) (f := 92) (by omega) (by rw [hk5]; rfl) (by omega) h5.1.2.2.1 (hR5.le (by omega) (by omega))) F5 sN (fun _ _ z => False.elim z)).le (by omega) (by omega)
      · have hlen' := hlen ws rfl hwl9
        have hW : laW (xbN A) L T c q = .inl (q + ws.length) := by unfold laW; rw [hKdef, hyv, if_neg hy, if_neg (hyv ▸ hful), hlen']
        have f8 : fr (sPo N) nz 0 0 M5 (dwPI M5 N 92 (Int32.ofNat (q + ws.length))) := (fr.refl M5).pI _ (Or.inl ⟨rfl, rfl⟩)
        have k8 := h5.1.to f8 (fun a k z => ⟨z.1, by have := z.2; omega⟩) di_eq (show q + ws.length ≤ L by omega)
        have h8 := lC_to h5 f8 (fun a k _ z => Or.inl ⟨z.1, Or.inl z.2⟩) (fun _ _ _ z => z) k8
        have s8 := s5.fr f8 (fun a k g1 g2 z => by
          rw [show a = N from z.1, hk5] at g2
          rcases g2 with g2 | g2
          · exact absurd (congrArg Prod.snd g2) (show ¬ (4 : Nat) = 28 by omega)
          · exact absurd g2 (show ¬ (0 : Nat) = 2 by omega)) (fun _ z => z)
        rw [hv, if_pos rfl, xgI_u (by rw [hk5]; rfl), h5.1.2.2.1, xrk_u ks5, c_slen s5, xob_v, i_add, xpI_u (by rw [hk5]; rfl)]
        have ks8 : dwK (dwPI M5 N 92 (Int32.ofNat (q + ws.length))) s = (0, 28) := ks5
        generalize dwPI M5 N 92 (Int32.ofNat (q + ws.length)) = M8 at *
        obtain ⟨M10, e10', f10, s10⟩ := c_hash s8 hw hsm
        have h10 := lC_s h8 ⟨hbs.1, ks8⟩ f10
        have F10 := ((F5.mono (S' := atN N) (Z' := nz) sN (fun _ _ z => z) (Nat.le_refl _) (Nat.le_refl _)).t0 (f8.mono (fun a k z => Nat.le_of_eq z.1.symm) (fun _ _ z => z) (Nat.le_refl _) (Nat.le_refl _))).t0 (f10.mono sN (fun _ _ z => z) (Nat.le_refl _) (Nat.le_refl _))
        have hR10 : room M10 3 200 := (hR.le (n' := 0 + 3) (u' := 0 + 200) (by omega) (by omega)).fr F10
        rw [xrk_u ks8, e10', xmb_v]
        refine jn_s (E := clR b A N L (laT (xbN A) L T c q) c (laC (xbN A) L T c q) M 3 200) (Q := fun J => clR b A N L (laT (xbN A) L T c q) c (laC (xbN A) L T c q) M 3 200 (J (swv ws swLand2))) ?_ ?_
        · exact hrest M10 h10 hR10 hW (hyv ▸ hful) fun Z hZ => (clR.pre hZ F10 (fun _ _ z => z) (fun _ _ z => False.elim z)).le (by omega) (by omega)
        · intro K hK
          show clR b A N L (laT (xbN A) L T c q) c (laC (xbN A) L T c q) M 3 200 (swc M10 s (hsF 0 ws) K swLand2)
          rw [sw_eq h10.2.2.2.2.2.2 s10 hw hsm swLand2 swLand2_ok]
          exact hK
    rcases swLand_cases ws with ⟨hw0, h0⟩ | ⟨hw0, h0⟩ | ⟨hw0, h0⟩ | ⟨hw0, h0⟩ | ⟨hw0, h0⟩ | ⟨h0, -, -⟩
    · rw [h0, if_pos (Or.inl rfl)]
      refine good 0 (by decide) h0 (by rw [hw0]; decide) fun M10 l10 hR10 hW hful hZ => ?_
      have hA : laA (xbN A) L T c q = nbS (xbN A) L 0 3 (q + ws.length) := by unfold laA hiA; rw [hW, hKdef, h0, if_pos rfl]; rfl
      have hB : laB (xbN A) L T c q = nuR (xbN A) L 0 9 (poR (nbS (xbN A) L 0 3 (q + ws.length))) := by unfold laB loB hiB; rw [hA, hKdef, h0, if_pos rfl, if_neg (by decide)]
      have hCC : laC (xbN A) L T c q = poR (nuR (xbN A) L 0 9 (poR (nbS (xbN A) L 0 3 (q + ws.length)))) := by unfold laC; rw [hKdef, h0, if_pos (Or.inl rfl), hB]
      have hTT : laT (xbN A) L T c q = addP T (vaR (nbS (xbN A) L 0 3 (q + ws.length))) (vaR (nuR (xbN A) L 0 9 (poR (nbS (xbN A) L 0 3 (q + ws.length))))) := by unfold laT; rw [hKdef, h0, if_pos rfl, hA, hB]
      rw [show swv ws swLand2 = 0 by rw [hw0]; decide]
      dsimp only
      rw [if_pos rfl]
      refine hZ _ ?_
      rw [hCC, hTT]
      exact c_clP l10 (by have := l10.2.2.2.2.1.1; exact Nat.lt_of_le_of_ne this fun e => hful (Or.inr (Or.inl ⟨rfl, e⟩))) hR10
    · rw [h0, if_pos (Or.inr (Or.inl rfl))]
      refine good 1 (by decide) h0 (by rw [hw0]; decide) fun M10 l10 hR10 hW hful hZ => ?_
      have hA : laA (xbN A) L T c q = nbS (xbN A) L 0 9 (q + ws.length) := by unfold laA hiA; rw [hW, hKdef, h0, if_neg (by decide), if_pos rfl]; rfl
      have hB : laB (xbN A) L T c q = nuR (xbN A) L 1 20 (poR (nbS (xbN A) L 0 9 (q + ws.length))) := by unfold laB loB hiB; rw [hA, hKdef, h0, if_pos rfl, if_neg (by decide), if_pos rfl]
      have hCC : laC (xbN A) L T c q = poR (nuR (xbN A) L 1 20 (poR (nbS (xbN A) L 0 9 (q + ws.length)))) := by unfold laC; rw [hKdef, h0, if_pos (Or.inr rfl), hB]
      have hTT : laT (xbN A) L T c q = addJ T (vaR (nbS (xbN A) L 0 9 (q + ws.length))) (vaR (nuR (xbN A) L 1 20 (poR (nbS (xbN A) L 0 9 (q + ws.length))))) := by unfold laT; rw [hKdef, h0, if_neg (by decide), if_pos rfl, hA, hB]
      rw [show swv ws swLand2 = 1 by rw [hw0]; decide]
      dsimp only
      rw [if_neg (by decide), if_pos rfl]
      refine hZ _ ?_
      rw [hCC, hTT]
      exact c_clJ l10 (by have := l10.2.2.2.2.1.2.1; exact Nat.lt_of_le_of_ne this fun e => hful (Or.inr (Or.inr (Or.inl ⟨rfl, e⟩)))) hR10
    · rw [h0, if_pos (Or.inr (Or.inr (Or.inl rfl)))]
      refine good 2 (by decide) h0 (by rw [hw0]; decide) fun M10 l10 hR10 hW hful hZ => ?_
      have hA : laA (xbN A) L T c q = nbS (xbN A) L 0 (Int32.ofNat (tP T) - 1) (q + ws.length) := by unfold laA hiA; rw [hW, hKdef, h0, if_neg (by decide), if_neg (by decide), if_pos rfl]; rfl
      have hB : laB (xbN A) L T c q = nuR (xbN A) L 0 (Int32.ofNat (tP T) - 1) (poR (nbS (xbN A) L 0 (Int32.ofNat (tP T) - 1) (q + ws.length))) := by unfold laB loB hiB; rw [hA, hKdef, h0, if_neg (by decide), if_neg (by decide), if_neg (by decide)]
      have hCC : laC (xbN A) L T c q = laQ (xbN A) L T c q := by unfold laC; rw [hKdef, h0, if_neg (by decide), if_pos rfl]
      have hTT : laT (xbN A) L T c q = addS T (vaR (nbS (xbN A) L 0 (Int32.ofNat (tP T) - 1) (q + ws.length))) (vaR (nuR (xbN A) L 0 (Int32.ofNat (tP T) - 1) (poR (nbS (xbN A) L 0 (Int32.ofNat (tP T) - 1) (q + ws.length))))) := by unfold laT; rw [hKdef, h0, if_neg (by decide), if_neg (by decide), if_pos rfl, hA, hB]
      rw [show swv ws swLand2 = 2 by rw [hw0]; decide]
      dsimp only
      rw [if_neg (by decide), if_neg (by decide), if_pos rfl]
      refine hZ _ ?_
      rw [hCC, hTT]
      unfold laQ
      rw [hA, hB]
      exact c_clS l10 (by have := l10.2.2.2.2.1.2.2.1; exact Nat.lt_of_le_of_ne this fun e => hful (Or.inr (Or.inr (Or.inr ⟨rfl, e⟩)))) hR10
    · rw [h0, if_pos (Or.inr (Or.inr (Or.inr (Or.inl rfl))))]
      refine good 3 (by decide) h0 (by rw [hw0]; decide) fun M10 l10 hR10 hW hful hZ => ?_
      have hA : laA (xbN A) L T c q = nbS (xbN A) L 0 (Int32.ofNat 200) (q + ws.length) := by unfold laA hiA; rw [hW, hKdef, h0, if_neg (by decide), if_neg (by decide), if_neg (by decide), if_pos rfl]; rfl
      have hCC : laC (xbN A) L T c q = poR (nbS (xbN A) L 0 (Int32.ofNat 200) (q + ws.length)) := by unfold laC; rw [hKdef, h0, if_neg (by decide), if_neg (by decide), hA]
      have hTT : laT (xbN A) L T c q = setG T (vaR (nbS (xbN A) L 0 (Int32.ofNat 200) (q + ws.length))) := by unfold laT; rw [hKdef, h0, if_neg (by decide), if_neg (by decide), if_neg (by decide), if_pos rfl, hA]
      rw [show swv ws swLand2 = 3 by rw [hw0]; decide]
      dsimp only
      rw [if_neg (by decide), if_neg (by decide), if_neg (by decide), if_pos rfl]
      refine hZ _ ?_
      rw [hCC, hTT]
      exact c_clG (f := 29) (hi := 200) (T' := setG T) l10 (Or.inl rfl) (by omega) (fun v => ⟨rfl, rfl, rfl, rfl, rfl, rfl⟩) (fun v => (if_pos rfl).symm) (fun v => (if_neg (by omega)).symm) (fun v hv => tOK_setG l10.2.2.2.2.1 hv) hR10
    · rw [h0, if_pos (Or.inr (Or.inr (Or.inr (Or.inr rfl))))]
      refine good 4 (by decide) h0 (by rw [hw0]; decide) fun M10 l10 hR10 hW hful hZ => ?_
      have hA : laA (xbN A) L T c q = nbS (xbN A) L 0 (Int32.ofNat 9) (q + ws.length) := by unfold laA hiA; rw [hW, hKdef, h0, if_neg (by decide), if_neg (by decide), if_neg (by decide), if_neg (by decide)]; rfl
      have hCC : laC (xbN A) L T c q = poR (nbS (xbN A) L 0 (Int32.ofNat 9) (q + ws.length)) := by unfold laC; rw [hKdef, h0, if_neg (by decide), if_neg (by decide), hA]
      have hTT : laT (xbN A) L T c q = setD T (vaR (nbS (xbN A) L 0 (Int32.ofNat 9) (q + ws.length))) := by unfold laT; rw [hKdef, h0, if_neg (by decide), if_neg (by decide), if_neg (by decide), if_neg (by decide), hA]
      rw [show swv ws swLand2 = -1 by rw [hw0]; decide]
      dsimp only
      rw [if_neg (by decide), if_neg (by decide), if_neg (by decide), if_neg (by decide)]
      refine hZ _ ?_
      rw [hCC, hTT]
      exact c_clG (f := 30) (hi := 9) (T' := setD T) l10 (Or.inr rfl) (by omega) (fun v => ⟨rfl, rfl, rfl, rfl, rfl, rfl⟩) (fun v => (if_neg (by omega)).symm) (fun v => (if_pos rfl).symm) (fun v hv => tOK_setD l10.2.2.2.2.1 hv) hR10
    · rw [h0, if_neg (by decide)]
      exact bad h0
  · intro K hK
    show clR b A N L (laT (xbN A) L T c q) c (laC (xbN A) L T c q) M 3 200 (swc M2 s (hsF 0 ws) K swLand)
    rw [sw_eq h2.2.2.2.2.2.2 s2 hw hsm swLand swLand_ok]
    exact hK
end LAND
