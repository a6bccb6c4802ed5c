/-! A LAND read: the twin's clause, whole -/
def sCl (b : Nat) : Nat → Nat → Prop := fun a k => (a = b + 54 ∧ (k = 48 ∨ k = 49 ∨ k = 50 ∨ k = 51)) ∨ a = b + 57 ∨ (b + 60 ≤ a ∧ a ≤ b + 66) ∨ (b + 76 ≤ a ∧ a ≤ b + 81) ∨ (b + 90 ≤ a ∧ a ≤ b + 101)
section LAND
variable {b : Nat} {M M2 : dwSt} {A : dvA} {ρ : Type} {L : Nat} {T : dvT} {r : rsP} {c q : Nat}
theorem tRT_addP {d t : Nat} (hs : Sh b M) (h : tRT b M T) (hO : tOK T) (hX : tP T < 7) (f : fr (fun a k => a = b + 54 ∨ a = b + 60 + tP T ∨ (a = b + 57 ∧ k = 0)) nz 0 0 M M2) (h0 : dwI M2 (b + 57) 0 = Int32.ofNat (tP T + 1)) (g0 : dwI M2 (b + 60 + tP T) 0 = Int32.ofNat d) (g1 : dwI M2 (b + 60 + tP T) 1 = Int32.ofNat t) : tRT b M2 (addP T d t) := by
  have hn := shN hs
  obtain ⟨h1, h2, h3, h4, h5, h6, h7, h8⟩ := h
  have o1 := hO.1
  have o2 := hO.2.1
  have o3 := hO.2.2.1
  refine ⟨h0, (f.i (by omega) (by omega)).trans h2, (f.i (by omega) (by omega)).trans h3, (f.i (by omega) (by omega)).trans h4, (f.i (by omega) (by omega)).trans h5, fun p i hp hi => ?_, fun p i hp hi => ?_, fun p i hp hi => ?_⟩
  · have hp' : p < tP T + 1 := hp
    have E0 : tpe (addP T d t) p i = if p = tP T then (if i = 0 then Int32.ofNat d else Int32.ofNat t) else tpe T p i := rfl
    rw [E0]
    by_cases ep : p = tP T
    · rw [if_pos ep, ep]
      rcases (by omega : i = 0 ∨ i = 1) with rfl | rfl
      · rw [if_pos rfl]; exact g0
      · rw [if_neg (by omega)]; exact g1
    · rw [if_neg ep, f.i (by omega) (by omega)]; exact h6 p i (by omega) hi
  · have hp' : p < tJ T := hp
    rw [f.i (by omega) (by omega)]; exact h7 p i hp hi
  · have hp' : p < tS T := hp
    rw [f.i (by omega) (by omega)]; exact h8 p i hp hi
theorem tRT_addJ {d t : Nat} (hs : Sh b M) (h : tRT b M T) (hO : tOK T) (hX : tJ T < 6) (f : fr (fun a k => a = b + 54 ∨ a = b + 76 + tJ T ∨ (a = b + 57 ∧ k = 1)) nz 0 0 M M2) (h0 : dwI M2 (b + 57) 1 = Int32.ofNat (tJ T + 1)) (g0 : dwI M2 (b + 76 + tJ T) 0 = Int32.ofNat d) (g1 : dwI M2 (b + 76 + tJ T) 1 = Int32.ofNat t) : tRT b M2 (addJ T d t) := by
  have hn := shN hs
  obtain ⟨h1, h2, h3, h4, h5, h6, h7, h8⟩ := h
  have o1 := hO.1
  have o2 := hO.2.1
  have o3 := hO.2.2.1
  refine ⟨(f.i (by omega) (by omega)).trans h1, h0, (f.i (by omega) (by omega)).trans h3, (f.i (by omega) (by omega)).trans h4, (f.i (by omega) (by omega)).trans h5, fun p i hp hi => ?_, fun p i hp hi => ?_, fun p i hp hi => ?_⟩
  · have hp' : p < tP T := hp
    rw [f.i (by omega) (by omega)]; exact h6 p i hp hi
  · have hp' : p < tJ T + 1 := hp
    have E0 : tjo (addJ T d t) p i = if p = tJ T then (if i = 0 then Int32.ofNat d else Int32.ofNat t) else tjo T p i := rfl
    rw [E0]
    by_cases ep : p = tJ T
    · rw [if_pos ep, ep]
      rcases (by omega : i = 0 ∨ i = 1) with rfl | rfl
      · rw [if_pos rfl]; exact g0
      · rw [if_neg (by omega)]; exact g1
    · rw [if_neg ep, f.i (by omega) (by omega)]; exact h7 p i (by omega) hi
  · have hp' : p < tS T := hp
    rw [f.i (by omega) (by omega)]; exact h8 p i hp hi
theorem tRT_addS {d t : Nat} (hs : Sh b M) (h : tRT b M T) (hO : tOK T) (hX : tS T < 12) (f : fr (fun a k => a = b + 54 ∨ a = b + 90 + tS T ∨ (a = b + 57 ∧ k = 2)) nz 0 0 M M2) (h0 : dwI M2 (b + 57) 2 = Int32.ofNat (tS T + 1)) (g0 : dwI M2 (b + 90 + tS T) 0 = Int32.ofNat d) (g1 : dwI M2 (b + 90 + tS T) 1 = Int32.ofNat t) : tRT b M2 (addS T d t) := by
  have hn := shN hs
  obtain ⟨h1, h2, h3, h4, h5, h6, h7, h8⟩ := h
  have o1 := hO.1
  have o2 := hO.2.1
  have o3 := hO.2.2.1
  refine ⟨(f.i (by omega) (by omega)).trans h1, (f.i (by omega) (by omega)).trans h2, h0, (f.i (by omega) (by omega)).trans h4, (f.i (by omega) (by omega)).trans h5, fun p i hp hi => ?_, fun p i hp hi => ?_, fun p i hp hi => ?_⟩
  · have hp' : p < tP T := hp
    rw [f.i (by omega) (by omega)]; exact h6 p i hp hi
  · have hp' : p < tJ T := hp
    rw [f.i (by omega) (by omega)]; exact h7 p i hp hi
  · have hp' : p < tS T + 1 := hp
    have E0 : tst (addS T d t) p i = if p = tS T then (if i = 0 then Int32.ofNat d else Int32.ofNat t) else tst T p i := rfl
    rw [E0]
    by_cases ep : p = tS T
    · rw [if_pos ep, ep]
      rcases (by omega : i = 0 ∨ i = 1) with rfl | rfl
      · rw [if_pos rfl]; exact g0
      · rw [if_neg (by omega)]; exact g1
    · rw [if_neg ep, f.i (by omega) (by omega)]; exact h8 p i (by omega) hi
theorem tRT_setG {v : Nat} (hs : Sh b M) (h : tRT b M T) (hO : tOK T) (f : fr (fun a k => a = b + 54 ∨ (a = b + 57 ∧ k = 3)) nz 0 0 M M2) (h0 : dwI M2 (b + 57) 3 = Int32.ofNat v) : tRT b M2 (setG T v) := by
  have hn := shN hs
  obtain ⟨h1, h2, h3, h4, h5, h6, h7, h8⟩ := h
  have o1 := hO.1
  have o2 := hO.2.1
  have o3 := hO.2.2.1
  refine ⟨(f.i (by omega) (by omega)).trans h1, (f.i (by omega) (by omega)).trans h2, (f.i (by omega) (by omega)).trans h3, h0, (f.i (by omega) (by omega)).trans h5, fun p i hp hi => ?_, fun p i hp hi => ?_, fun p i hp hi => ?_⟩
  · have hp' : p < tP T := hp
    rw [f.i (by omega) (by omega)]; exact h6 p i hp hi
  · have hp' : p < tJ T := hp
    rw [f.i (by omega) (by omega)]; exact h7 p i hp hi
  · have hp' : p < tS T := hp
    rw [f.i (by omega) (by omega)]; exact h8 p i hp hi
theorem tRT_setD {v : Nat} (hs : Sh b M) (h : tRT b M T) (hO : tOK T) (f : fr (fun a k => a = b + 54 ∨ (a = b + 57 ∧ k = 4)) nz 0 0 M M2) (h0 : dwI M2 (b + 57) 4 = Int32.ofNat v) : tRT b M2 (setD T v) := by
  have hn := shN hs
  obtain ⟨h1, h2, h3, h4, h5, h6, h7, h8⟩ := h
  have o1 := hO.1
  have o2 := hO.2.1
  have o3 := hO.2.2.1
  refine ⟨(f.i (by omega) (by omega)).trans h1, (f.i (by omega) (by omega)).trans h2, (f.i (by omega) (by omega)).trans h3, (f.i (by omega) (by omega)).trans h4, h0, fun p i hp hi => ?_, fun p i hp hi => ?_, fun p i hp hi => ?_⟩
  · have hp' : p < tP T := hp
    rw [f.i (by omega) (by omega)]; exact h6 p i hp hi
  · have hp' : p < tJ T := hp
    rw [f.i (by omega) (by omega)]; exact h7 p i hp hi
  · have hp' : p < tS T := hp
    rw [f.i (by omega) (by omega)]; exact h8 p i hp hi
/-- what the twin's clause comes to -/
def tcZ (b : Nat) (A : dvA) (L : Nat) (T : dvT) (c q : Nat) (M : dwSt) (z : Option (Unit × dwSt)) : Prop := ∃ M2, z = some ((), M2) ∧ fr (sCl b) nz 0 0 M M2 ∧ tSt b M2 A L (laE (xbN A) L T c q) ∧ ∀ p, laE (xbN A) L T c q = .inl p → tRT b M2 (laT (xbN A) L T c q) ∧ dwI M2 (b + 54) 51 = Int32.ofNat (c + 1)
/-- the same as far as the word -/
noncomputable def laV (X : Nat → Nat) (L : Nat) (T : dvT) (c q : Nat) : rsP := if laK X L q = -1 then .inr (1, q) else @ite _ (fulS T c (laK X L q)) (Classical.propDecidable _) (.inr (3, q)) (.inl q)
theorem laV_cases {X : Nat → Nat} : (∃ e, laV X L T c q = .inr e ∧ laW X L T c q = .inr e) ∨ (laV X L T c q = .inl q ∧ laW X L T c q = .inl (q + (wdS X L q).length) ∧ ¬ laK X L q = -1 ∧ ¬ fulS T c (laK X L q)) := by
  by_cases h1 : laK X L q = -1
  · exact Or.inl ⟨(1, q), by unfold laV; rw [if_pos h1], by unfold laW; rw [if_pos h1]⟩
  · by_cases h2 : fulS T c (laK X L q)
    · exact Or.inl ⟨(3, q), by unfold laV; rw [if_neg h1, if_pos h2], by unfold laW; rw [if_neg h1, if_pos h2]⟩
    · exact Or.inr ⟨by unfold laV; rw [if_neg h1, if_neg h2], by unfold laW; rw [if_neg h1, if_neg h2], h1, h2⟩
theorem t_clause (h : tSt b M A L (.inl q)) (hbl : blS (xbN A) L q = q) (hT : tRT b M T) (hO : tOK T) (h51 : dwI M (b + 54) 51 = Int32.ofNat c) (hc : c ≤ 60) : tcZ b A L T c q M (m_X10_clause M (b + 54)) := by
  have sh1 := h.1.1
  have hN := shN sh1
  have o1 := hO.1
  have o2 := hO.2.1
  have o3 := hO.2.2.1
  obtain ⟨M2, e2, f2, k2⟩ := tS_kindHere h
  rw [hbl] at e2 k2
  have e2' : m_X10_kindHere M (b + 54) = some (laK (xbN A) L q, M2) := e2
  have sh2 := k2.1.1
  have hN2 := shN sh2
  have f2' : fr (sWr b) nz 0 0 M M2 := f2.mono (fun a j z => ⟨z.1, Or.inl z.2⟩) (fun _ _ z => z) (Nat.le_refl _) (Nat.le_refl _)
  have T2 := tRT_fr sh1 hT hO f2' (fun i k hi => by unfold sWr; omega)
  have g51 : dwI M2 (b + 54) 51 = Int32.ofNat c := (f2'.i (by omega) (by unfold sWr; omega)).trans h51
  have h48 := k2.ok.1
  unfold m_X10_clause
  rw [xrk_u (kd54 sh1), e2', xmb_v]
  refine jn_s (E := tcZ b A L T c q M) (Q := fun J => ∀ M3, fr (sWr b) nz 0 0 M2 M3 → tSt b M3 A L (laV (xbN A) L T c q) → tcZ b A L T c q M (J M3)) ?_ ?_
  · intro M3 f3 k3
    have sh3 := k3.1.1
    have hN3 := shN sh3
    have F3 := f2'.t0 f3
    have hC3 : fr (sCl b) nz 0 0 M M3 := F3.mono (fun a j z => Or.inl ⟨z.1, by have := z.2; omega⟩) (fun _ _ z => z) (Nat.le_refl _) (Nat.le_refl _)
    have T3 := tRT_fr sh1 hT hO F3 (fun i k hi => by unfold sWr; omega)
    have j51 : dwI M3 (b + 54) 51 = Int32.ofNat c := (F3.i (by omega) (by unfold sWr; omega)).trans h51
    rw [xgI_u (by rw [kd54 sh3]; rfl)]
    rcases laV_cases (X := xbN A) (L := L) (T := T) (c := c) (q := q) with ⟨e, hV, hW⟩ | ⟨hV, hW, hK1, hF⟩
    · rw [hV] at k3
      have hE : laE (xbN A) L T c q = .inr e := by unfold laE; rw [laC_bad hW]; rfl
      rw [if_neg k3.bad.2.2]
      exact ⟨M3, rfl, hC3, by rw [hE]; exact k3, fun p z => by rw [hE] at z; cases z⟩
    · rw [hV] at k3
      obtain ⟨M6, e6, f6, k6⟩ := tS_skip k3
      have sh6 := k6.1.1
      have hN6 := shN sh6
      have i51 : dwI M6 (b + 54) 51 = Int32.ofNat c := (f6.i (by omega) (by unfold sPt; omega)).trans j51
      have f8 := frP M6 (b + 54) 51 (Int32.ofNat (c + 1))
      have k8 : tSt b (dwPI M6 (b + 54) 51 (Int32.ofNat (c + 1))) A L (.inl (q + (wdS (xbN A) L q).length)) := k6.fr (S := fun a k => a = b + 54 ∧ k = 51) (Z := nz) ((fr.refl M6).pI _ (Or.inl ⟨rfl, rfl⟩)) (fun j hj => by omega) (fun j => by omega) nz_p
      have hC8 : fr (fun a k => (a = b + 54 ∧ (k = 48 ∨ k = 49 ∨ k = 50 ∨ k = 51))) nz 0 0 M (dwPI M6 (b + 54) 51 (Int32.ofNat (c + 1))) := ((F3.mono (S' := fun a k => (a = b + 54 ∧ (k = 48 ∨ k = 49 ∨ k = 50 ∨ k = 51))) (Z' := nz) (fun a j z => ⟨z.1, by have := z.2; omega⟩) (fun _ _ z => z) (Nat.le_refl _) (Nat.le_refl _)).t0 (f6.mono (fun a j z => ⟨z.1, by have := z.2; omega⟩) (fun _ _ z => z) (Nat.le_refl _) (Nat.le_refl _))).pI _ (Or.inl ⟨rfl, by omega⟩)
      have T8 := tRT_fr sh1 hT hO hC8 (fun i k hi => by omega)
      have i518 : dwI (dwPI M6 (b + 54) 51 (Int32.ofNat (c + 1))) (b + 54) 51 = Int32.ofNat (c + 1) := di_eq
      rw [if_pos k3.ok.2.1, xrk_u (kd54 sh3), e6, xmb_v, xgI_u (by rw [kd54 sh6]; rfl), i51, i_succ, xpI_u (by rw [kd54 sh6]; rfl)]
      generalize dwPI M6 (b + 54) 51 (Int32.ofNat (c + 1)) = M8 at *
      have sh8 := k8.1.1
      have hN8 := shN sh8
      have rd : ∀ (k m : Nat), k < 5 → dwI M8 (b + 57) k = Int32.ofNat m → ∀ {σ : Type} (K : Int32 → Option σ), xgR M8 55 (b + 54) (fun v68 => xaI M8 v68 (Int32.ofNat k) K) = K (Int32.ofNat m) := fun k m hk hm σ K => by
        rw [gp54_55 sh8, xaI_u (by rw [kd57 sh8]) (by rw [kd57 sh8]; exact inb_n hk (by omega)), i_nat (by omega), hm]
      have hKl : laK (xbN A) L q = 0 ∨ laK (xbN A) L q = 1 ∨ laK (xbN A) L q = 2 ∨ laK (xbN A) L q = 3 ∨ laK (xbN A) L q = 4 := by
        rcases swLand_cases ((wdS (xbN A) L q).take 10) with ⟨-, z⟩ | ⟨-, z⟩ | ⟨-, z⟩ | ⟨-, z⟩ | ⟨-, z⟩ | ⟨z, -⟩
        · exact Or.inl z
        · exact Or.inr (Or.inl z)
        · exact Or.inr (Or.inr (Or.inl z))
        · exact Or.inr (Or.inr (Or.inr (Or.inl z)))
        · exact Or.inr (Or.inr (Or.inr (Or.inr z)))
        · exact absurd z hK1
      rcases hKl with hk | hk | hk | hk | hk
      · rw [hk] at hF
        have hlt : tP T < 7 := Nat.lt_of_le_of_ne o1 fun e => hF (Or.inr (Or.inl ⟨rfl, e⟩))
        have hA : laA (xbN A) L T c q = nbS (xbN A) L 0 3 (q + (wdS (xbN A) L q).length) := by unfold laA hiA; rw [hW, hk, if_pos rfl]; rfl
        have hB : laB (xbN A) L T c q = nuR (xbN A) L 0 9 (poR (nbS (xbN A) L 0 3 (q + (wdS (xbN A) L q).length))) := by unfold laB loB hiB; rw [hA, hk, if_pos rfl, if_neg (by decide)]
        have hCC : laC (xbN A) L T c q = poR (nuR (xbN A) L 0 9 (poR (nbS (xbN A) L 0 3 (q + (wdS (xbN A) L q).length)))) := by unfold laC; rw [hk, if_pos (Or.inl rfl), hB]
        have hTT : laT (xbN A) L T c q = addP T (vaR (nbS (xbN A) L 0 3 (q + (wdS (xbN A) L q).length))) (vaR (nuR (xbN A) L 0 9 (poR (nbS (xbN A) L 0 3 (q + (wdS (xbN A) L q).length))))) := by unfold laT; rw [hk, if_pos rfl, hA, hB]
        rw [hk]
        refine jn_s (E := tcZ b A L T c q M) (Q := fun J => tcZ b A L T c q M (J (Int32.ofNat (tP T)))) ?_ ?_
        · refine jn_s (E := tcZ b A L T c q M) (Q := fun J => ∀ M10, fr (sKi b (b + 60 + tP T)) nz 0 0 M8 M10 → tSt b M10 A L (laC (xbN A) L T c q) → dwI M10 (b + 60 + tP T) 0 = Int32.ofNat (vaR (nbS (xbN A) L 0 3 (q + (wdS (xbN A) L q).length))) → dwI M10 (b + 60 + tP T) 1 = Int32.ofNat (vaR (nuR (xbN A) L 0 9 (poR (nbS (xbN A) L 0 3 (q + (wdS (xbN A) L q).length))))) → tcZ b A L T c q M (J M10)) ?_ ?_
          · intro M10 f10 k10 g0 g1
            have c57 : dwI M10 (b + 57) 0 = Int32.ofNat (tP T) := (f10.i (by omega) (by unfold sKi; omega)).trans T8.1
            obtain ⟨M12, e12, f12, k12, g12⟩ := t_tail (k := 0) (m := tP T) (by omega) k10 c57
            have hN10 := shN k10.1.1
            have F : fr (fun a k => a = b + 54 ∨ a = b + 60 + tP T ∨ (a = b + 57 ∧ k = 0)) nz 0 0 M8 M12 := (f10.mono (fun a j z => by unfold sKi at z; omega) (fun _ _ z => z) (Nat.le_refl _) (Nat.le_refl _)).t0 (f12.mono (fun a j z => by omega) (fun _ _ z => z) (Nat.le_refl _) (Nat.le_refl _))
            refine ⟨M12, e12, (hC8.mono (fun a j z => Or.inl z) (fun _ _ z => z) (Nat.le_refl _) (Nat.le_refl _)).t0 ((f10.mono (fun a j z => by unfold sKi at z; (try unfold sCl); omega) (fun _ _ z => z) (Nat.le_refl _) (Nat.le_refl _)).t0 (f12.mono (fun a j z => by (try unfold sCl); omega) (fun _ _ z => z) (Nat.le_refl _) (Nat.le_refl _))), k12, fun p hp => ⟨?_, ?_⟩⟩
            · rw [hTT]
              exact tRT_addP sh8 T8 hO hlt F (g12 p hp) ((f12.i (by omega) (by omega)).trans g0) ((f12.i (by omega) (by omega)).trans g1)
            · rw [f12.i (by omega) (by omega), f10.i (by omega) (by unfold sKi; omega)]; exact i518
          · intro J hJ
            rw [if_pos rfl]
            rw [hCC] at hJ
            exact t_clP (E := tcZ b A L T c q M) k8 hlt hJ
        · intro J hJ
          rw [if_neg (by decide)]
          exact (rd 0 (tP T) (by omega) T8.1 J) ▸ hJ
      · rw [hk] at hF
        have hlt : tJ T < 6 := Nat.lt_of_le_of_ne o2 fun e => hF (Or.inr (Or.inr (Or.inl ⟨rfl, e⟩)))
        have hA : laA (xbN A) L T c q = nbS (xbN A) L 0 9 (q + (wdS (xbN A) L q).length) := by unfold laA hiA; rw [hW, hk, if_neg (by decide), if_pos rfl]; rfl
        have hB : laB (xbN A) L T c q = nuR (xbN A) L 1 20 (poR (nbS (xbN A) L 0 9 (q + (wdS (xbN A) L q).length))) := by unfold laB loB hiB; rw [hA, hk, if_pos rfl, if_neg (by decide), if_pos rfl]
        have hCC : laC (xbN A) L T c q = poR (nuR (xbN A) L 1 20 (poR (nbS (xbN A) L 0 9 (q + (wdS (xbN A) L q).length)))) := by unfold laC; rw [hk, if_pos (Or.inr rfl), hB]
        have hTT : laT (xbN A) L T c q = addJ T (vaR (nbS (xbN A) L 0 9 (q + (wdS (xbN A) L q).length))) (vaR (nuR (xbN A) L 1 20 (poR (nbS (xbN A) L 0 9 (q + (wdS (xbN A) L q).length))))) := by unfold laT; rw [hk, if_neg (by decide), if_pos rfl, hA, hB]
        rw [hk]
        refine jn_s (E := tcZ b A L T c q M) (Q := fun J => tcZ b A L T c q M (J (Int32.ofNat (tJ T)))) ?_ ?_
        · refine jn_s (E := tcZ b A L T c q M) (Q := fun J => ∀ M10, fr (sKi b (b + 76 + tJ T)) nz 0 0 M8 M10 → tSt b M10 A L (laC (xbN A) L T c q) → dwI M10 (b + 76 + tJ T) 0 = Int32.ofNat (vaR (nbS (xbN A) L 0 9 (q + (wdS (xbN A) L q).length))) → dwI M10 (b + 76 + tJ T) 1 = Int32.ofNat (vaR (nuR (xbN A) L 1 20 (poR (nbS (xbN A) L 0 9 (q + (wdS (xbN A) L q).length))))) → tcZ b A L T c q M (J M10)) ?_ ?_
          · intro M10 f10 k10 g0 g1
            have c57 : dwI M10 (b + 57) 1 = Int32.ofNat (tJ T) := (f10.i (by omega) (by unfold sKi; omega)).trans T8.2.1
            obtain ⟨M12, e12, f12, k12, g12⟩ := t_tail (k := 1) (m := tJ T) (by omega) k10 c57
            have hN10 := shN k10.1.1
            have F : fr (fun a k => a = b + 54 ∨ a = b + 76 + tJ T ∨ (a = b + 57 ∧ k = 1)) nz 0 0 M8 M12 := (f10.mono (fun a j z => by unfold sKi at z; omega) (fun _ _ z => z) (Nat.le_refl _) (Nat.le_refl _)).t0 (f12.mono (fun a j z => by omega) (fun _ _ z => z) (Nat.le_refl _) (Nat.le_refl _))
            refine ⟨M12, e12, (hC8.mono (fun a j z => Or.inl z) (fun _ _ z => z) (Nat.le_refl _) (Nat.le_refl _)).t0 ((f10.mono (fun a j z => by unfold sKi at z; (try unfold sCl); omega) (fun _ _ z => z) (Nat.le_refl _) (Nat.le_refl _)).t0 (f12.mono (fun a j z => by (try unfold sCl); omega) (fun _ _ z => z) (Nat.le_refl _) (Nat.le_refl _))), k12, fun p hp => ⟨?_, ?_⟩⟩
            · rw [hTT]
              exact tRT_addJ sh8 T8 hO hlt F (g12 p hp) ((f12.i (by omega) (by omega)).trans g0) ((f12.i (by omega) (by omega)).trans g1)
            · rw [f12.i (by omega) (by omega), f10.i (by omega) (by unfold sKi; omega)]; exact i518
          · intro J hJ
            rw [if_neg (by decide), if_pos rfl]
            rw [hCC] at hJ
            exact t_clJ (E := tcZ b A L T c q M) k8 hlt hJ
        · intro J hJ
          rw [if_neg (by decide)]
          exact (rd 1 (tJ T) (by omega) T8.2.1 J) ▸ hJ
      · rw [hk] at hF
        have hlt : tS T < 12 := Nat.lt_of_le_of_ne o3 fun e => hF (Or.inr (Or.inr (Or.inr ⟨rfl, e⟩)))
        have hA : laA (xbN A) L T c q = nbS (xbN A) L 0 (Int32.ofNat (tP T) - 1) (q + (wdS (xbN A) L q).length) := by unfold laA hiA; rw [hW, hk, if_neg (by decide), if_neg (by decide), if_pos rfl]; rfl
        have hB : laB (xbN A) L T c q = nuR (xbN A) L 0 (Int32.ofNat (tP T) - 1) (poR (nbS (xbN A) L 0 (Int32.ofNat (tP T) - 1) (q + (wdS (xbN A) L q).length))) := by unfold laB loB hiB; rw [hA, hk, if_neg (by decide), if_neg (by decide), if_neg (by decide)]
        have hCC : laC (xbN A) L T c q = (match nuR (xbN A) L 0 (Int32.ofNat (tP T) - 1) (poR (nbS (xbN A) L 0 (Int32.ofNat (tP T) - 1) (q + (wdS (xbN A) L q).length))) with
          | .inl z => @ite _ (noSt T (vaR (nbS (xbN A) L 0 (Int32.ofNat (tP T) - 1) (q + (wdS (xbN A) L q).length))) z.1) (Classical.propDecidable _) (.inr (2, blS (xbN A) L (psR (nbS (xbN A) L 0 (Int32.ofNat (tP T) - 1) (q + (wdS (xbN A) L q).length))))) (.inl z.2)
          | .inr e => .inr e) := by unfold laC laQ; rw [hk, if_neg (by decide), if_pos rfl, hA, hB]; rfl
        have hTT : laT (xbN A) L T c q = addS T (vaR (nbS (xbN A) L 0 (Int32.ofNat (tP T) - 1) (q + (wdS (xbN A) L q).length))) (vaR (nuR (xbN A) L 0 (Int32.ofNat (tP T) - 1) (poR (nbS (xbN A) L 0 (Int32.ofNat (tP T) - 1) (q + (wdS (xbN A) L q).length))))) := by unfold laT; rw [hk, if_neg (by decide), if_neg (by decide), if_pos rfl, hA, hB]
        rw [hk]
        refine jn_s (E := tcZ b A L T c q M) (Q := fun J => tcZ b A L T c q M (J (Int32.ofNat (tS T)))) ?_ ?_
        · refine jn_s (E := tcZ b A L T c q M) (Q := fun J => ∀ M10, fr (sKi b (b + 90 + tS T)) nz 0 0 M8 M10 → tSt b M10 A L (laC (xbN A) L T c q) → dwI M10 (b + 90 + tS T) 0 = Int32.ofNat (vaR (nbS (xbN A) L 0 (Int32.ofNat (tP T) - 1) (q + (wdS (xbN A) L q).length))) → dwI M10 (b + 90 + tS T) 1 = Int32.ofNat (vaR (nuR (xbN A) L 0 (Int32.ofNat (tP T) - 1) (poR (nbS (xbN A) L 0 (Int32.ofNat (tP T) - 1) (q + (wdS (xbN A) L q).length))))) → tcZ b A L T c q M (J M10)) ?_ ?_
          · intro M10 f10 k10 g0 g1
            have c57 : dwI M10 (b + 57) 2 = Int32.ofNat (tS T) := (f10.i (by omega) (by unfold sKi; omega)).trans T8.2.2.1
            obtain ⟨M12, e12, f12, k12, g12⟩ := t_tail (k := 2) (m := tS T) (by omega) k10 c57
            have hN10 := shN k10.1.1
            have F : fr (fun a k => a = b + 54 ∨ a = b + 90 + tS T ∨ (a = b + 57 ∧ k = 2)) nz 0 0 M8 M12 := (f10.mono (fun a j z => by unfold sKi at z; omega) (fun _ _ z => z) (Nat.le_refl _) (Nat.le_refl _)).t0 (f12.mono (fun a j z => by omega) (fun _ _ z => z) (Nat.le_refl _) (Nat.le_refl _))
            refine ⟨M12, e12, (hC8.mono (fun a j z => Or.inl z) (fun _ _ z => z) (Nat.le_refl _) (Nat.le_refl _)).t0 ((f10.mono (fun a j z => by unfold sKi at z; (try unfold sCl); omega) (fun _ _ z => z) (Nat.le_refl _) (Nat.le_refl _)).t0 (f12.mono (fun a j z => by (try unfold sCl); omega) (fun _ _ z => z) (Nat.le_refl _) (Nat.le_refl _))), k12, fun p hp => ⟨?_, ?_⟩⟩
            · rw [hTT]
              exact tRT_addS sh8 T8 hO hlt F (g12 p hp) ((f12.i (by omega) (by omega)).trans g0) ((f12.i (by omega) (by omega)).trans g1)
            · rw [f12.i (by omega) (by omega), f10.i (by omega) (by unfold sKi; omega)]; exact i518
          · intro J hJ
            rw [if_neg (by decide), if_neg (by decide), if_pos rfl]
            rw [hCC] at hJ
            exact t_clS (E := tcZ b A L T c q M) k8 hlt T8 hO hJ
        · intro J hJ
          rw [if_neg (by decide)]
          exact (rd 2 (tS T) (by omega) T8.2.2.1 J) ▸ hJ
      · have hA : laA (xbN A) L T c q = nbS (xbN A) L 0 (Int32.ofNat 200) (q + (wdS (xbN A) L q).length) := by unfold laA hiA; rw [hW, hk, if_neg (by decide), if_neg (by decide), if_neg (by decide), if_pos rfl]; rfl
        have hCC : laC (xbN A) L T c q = poR (nbS (xbN A) L 0 (Int32.ofNat 200) (q + (wdS (xbN A) L q).length)) := by unfold laC; rw [hk, if_neg (by decide), if_neg (by decide), hA]
        have hTT : laT (xbN A) L T c q = setG T (vaR (nbS (xbN A) L 0 (Int32.ofNat 200) (q + (wdS (xbN A) L q).length))) := by unfold laT; rw [hk, if_neg (by decide), if_neg (by decide), if_neg (by decide), if_pos rfl, hA]
        rw [hk]
        refine jn_s (E := tcZ b A L T c q M) (Q := fun J => tcZ b A L T c q M (J 0)) ?_ ?_
        · refine jn_s (E := tcZ b A L T c q M) (Q := fun J => ∀ M10, fr (fun a j => (a = b + 54 ∧ (j = 48 ∨ j = 49 ∨ j = 50)) ∨ (a = b + 57 ∧ j = 3)) nz 0 0 M8 M10 → tSt b M10 A L (laC (xbN A) L T c q) → (∀ p, laC (xbN A) L T c q = .inl p → dwI M10 (b + 57) 3 = Int32.ofNat (vaR (nbS (xbN A) L 0 (Int32.ofNat 200) (q + (wdS (xbN A) L q).length)))) → tcZ b A L T c q M (J M10)) ?_ ?_
          · intro M10 f10 k10 g0
            have sh10 := k10.1.1
            have hN10 := shN sh10
            obtain ⟨M12, e12, f12, k12⟩ := tS_sign (c := 59) k10 (by omega)
            have e12' : m_X10_sign M10 (b + 54) 59 = some ((), M12) := e12
            have F : fr (fun a k => a = b + 54 ∨ (a = b + 57 ∧ k = 3)) nz 0 0 M8 M12 := (f10.mono (fun a j z => by omega) (fun _ _ z => z) (Nat.le_refl _) (Nat.le_refl _)).t0 (f12.mono (fun a j z => Or.inl z.1) (fun _ _ z => z) (Nat.le_refl _) (Nat.le_refl _))
            rw [xrk_u (kd54 sh10), e12', xmb_v, if_pos (by decide)]
            refine ⟨M12, rfl, (hC8.mono (fun a j z => Or.inl z) (fun _ _ z => z) (Nat.le_refl _) (Nat.le_refl _)).t0 ((f10.mono (fun a j z => by (try unfold sCl); omega) (fun _ _ z => z) (Nat.le_refl _) (Nat.le_refl _)).t0 (f12.mono (fun a j z => by unfold sWr at z; (try unfold sCl); omega) (fun _ _ z => z) (Nat.le_refl _) (Nat.le_refl _))), k12, fun p hp => ⟨?_, ?_⟩⟩
            · rw [hTT]
              cases hcc : laC (xbN A) L T c q with
              | inr e => unfold laE at hp; rw [hcc] at hp; cases hp
              | inl p1 => exact tRT_setG sh8 T8 hO F ((f12.i (by omega) (by unfold sWr; omega)).trans (g0 p1 hcc))
            · rw [f12.i (by omega) (by unfold sWr; omega), f10.i (by omega) (by omega)]; exact i518
          · intro J hJ
            rw [if_neg (by decide), if_neg (by decide), if_neg (by decide), jn_u, if_pos rfl]
            rw [hCC] at hJ
            exact t_clG (E := tcZ b A L T c q M) (k := 3) (hi := 200) k8 (by omega) hJ
        · intro J hJ
          rw [if_pos (by decide)]
          exact hJ
      · have hA : laA (xbN A) L T c q = nbS (xbN A) L 0 (Int32.ofNat 9) (q + (wdS (xbN A) L q).length) := by unfold laA hiA; rw [hW, hk, if_neg (by decide), if_neg (by decide), if_neg (by decide), if_neg (by decide)]; rfl
        have hCC : laC (xbN A) L T c q = poR (nbS (xbN A) L 0 (Int32.ofNat 9) (q + (wdS (xbN A) L q).length)) := by unfold laC; rw [hk, if_neg (by decide), if_neg (by decide), hA]
        have hTT : laT (xbN A) L T c q = setD T (vaR (nbS (xbN A) L 0 (Int32.ofNat 9) (q + (wdS (xbN A) L q).length))) := by unfold laT; rw [hk, if_neg (by decide), if_neg (by decide), if_neg (by decide), if_neg (by decide), hA]
        rw [hk]
        refine jn_s (E := tcZ b A L T c q M) (Q := fun J => tcZ b A L T c q M (J 0)) ?_ ?_
        · refine jn_s (E := tcZ b A L T c q M) (Q := fun J => ∀ M10, fr (fun a j => (a = b + 54 ∧ (j = 48 ∨ j = 49 ∨ j = 50)) ∨ (a = b + 57 ∧ j = 4)) nz 0 0 M8 M10 → tSt b M10 A L (laC (xbN A) L T c q) → (∀ p, laC (xbN A) L T c q = .inl p → dwI M10 (b + 57) 4 = Int32.ofNat (vaR (nbS (xbN A) L 0 (Int32.ofNat 9) (q + (wdS (xbN A) L q).length)))) → tcZ b A L T c q M (J M10)) ?_ ?_
          · intro M10 f10 k10 g0
            have sh10 := k10.1.1
            have hN10 := shN sh10
            obtain ⟨M12, e12, f12, k12⟩ := tS_sign (c := 59) k10 (by omega)
            have e12' : m_X10_sign M10 (b + 54) 59 = some ((), M12) := e12
            have F : fr (fun a k => a = b + 54 ∨ (a = b + 57 ∧ k = 4)) nz 0 0 M8 M12 := (f10.mono (fun a j z => by omega) (fun _ _ z => z) (Nat.le_refl _) (Nat.le_refl _)).t0 (f12.mono (fun a j z => Or.inl z.1) (fun _ _ z => z) (Nat.le_refl _) (Nat.le_refl _))
            rw [xrk_u (kd54 sh10), e12', xmb_v, if_pos (by decide)]
            refine ⟨M12, rfl, (hC8.mono (fun a j z => Or.inl z) (fun _ _ z => z) (Nat.le_refl _) (Nat.le_refl _)).t0 ((f10.mono (fun a j z => by (try unfold sCl); omega) (fun _ _ z => z) (Nat.le_refl _) (Nat.le_refl _)).t0 (f12.mono (fun a j z => by unfold sWr at z; (try unfold sCl); omega) (fun _ _ z => z) (Nat.le_refl _) (Nat.le_refl _))), k12, fun p hp => ⟨?_, ?_⟩⟩
            · rw [hTT]
              cases hcc : laC (xbN A) L T c q with
              | inr e => unfold laE at hp; rw [hcc] at hp; cases hp
              | inl p1 => exact tRT_setD sh8 T8 hO F ((f12.i (by omega) (by unfold sWr; omega)).trans (g0 p1 hcc))
            · rw [f12.i (by omega) (by unfold sWr; omega), f10.i (by omega) (by omega)]; exact i518
          · intro J hJ
            rw [if_neg (by decide), if_neg (by decide), if_neg (by decide), jn_u, if_neg (by decide)]
            rw [hCC] at hJ
            exact t_clG (E := tcZ b A L T c q M) (k := 4) (hi := 9) k8 (by omega) hJ
        · intro J hJ
          rw [if_pos (by decide)]
          exact hJ
  · intro J hJ
    have bad1 : laK (xbN A) L q = -1 → tcZ b A L T c q M (xrk M2 (b + 54) 3 (xmb (m_X10_wrong M2 (b + 54) 1 (Int32.ofNat q)) (fun _ M79 => J M79))) := fun hk => by
      obtain ⟨M3, e3, f3, k3⟩ := tS_wrong (k := 1) k2 (by omega) q
      have e3' : m_X10_wrong M2 (b + 54) 1 (Int32.ofNat q) = some ((), M3) := e3
      rw [xrk_u (kd54 sh2), e3', xmb_v]
      exact hJ M3 f3 (by unfold laV; rw [if_pos hk]; exact k3)
    have bad3 : ¬ laK (xbN A) L q = -1 → fulS T c (laK (xbN A) L q) → tcZ b A L T c q M (xrk M2 (b + 54) 3 (xmb (m_X10_wrong M2 (b + 54) 3 (Int32.ofNat q)) (fun _ M73 => J M73))) := fun hk hf => by
      obtain ⟨M3, e3, f3, k3⟩ := tS_wrong (k := 3) k2 (by omega) q
      have e3' : m_X10_wrong M2 (b + 54) 3 (Int32.ofNat q) = some ((), M3) := e3
      rw [xrk_u (kd54 sh2), e3', xmb_v]
      exact hJ M3 f3 (by unfold laV; rw [if_neg hk, if_pos hf]; exact k3)
    have good : ¬ laK (xbN A) L q = -1 → ¬ fulS T c (laK (xbN A) L q) → tcZ b A L T c q M (J M2) := fun hk hf => hJ M2 ((fr.refl M2).mono (fun _ _ z => z) (fun _ _ z => z) (Nat.le_refl _) (Nat.le_refl _)) (by unfold laV; rw [if_neg hk, if_neg hf]; exact k2)
    have i60 : (Int32.ofNat c = 60) ↔ c = 60 := by rw [show (60 : Int32) = Int32.ofNat 60 from rfl, i_inj (by omega) (by omega)]
    have rd : ∀ (k m : Nat), k < 5 → dwI M2 (b + 57) k = Int32.ofNat m → ∀ {σ : Type} (K : Int32 → Option σ), xgR M2 55 (b + 54) (fun v68 => xaI M2 v68 (Int32.ofNat k) K) = K (Int32.ofNat m) := fun k m hk hm σ K => by
      rw [gp54_55 sh2, xaI_u (by rw [kd57 sh2]) (by rw [kd57 sh2]; exact inb_n hk (by omega)), i_nat (by omega), hm]
    by_cases hk1 : laK (xbN A) L q = -1
    · rw [if_pos hk1, xgI_u (by rw [kd54 sh2]; rfl), h48]
      exact bad1 hk1
    · rw [if_neg hk1, xgI_u (by rw [kd54 sh2]; rfl), g51, jn_u, xgI_u (by rw [kd54 sh2]; rfl), h48]
      by_cases c60 : c = 60
      · rw [if_pos (i60.mpr c60)]
        exact bad3 hk1 (Or.inl c60)
      · rw [if_neg (fun z => c60 (i60.mp z))]
        have hKl : laK (xbN A) L q = 0 ∨ laK (xbN A) L q = 1 ∨ laK (xbN A) L q = 2 ∨ laK (xbN A) L q = 3 ∨ laK (xbN A) L q = 4 := by
          rcases swLand_cases ((wdS (xbN A) L q).take 10) with ⟨-, z⟩ | ⟨-, z⟩ | ⟨-, z⟩ | ⟨-, z⟩ | ⟨-, z⟩ | ⟨z, -⟩
          · exact Or.inl z
          · exact Or.inr (Or.inl z)
          · exact Or.inr (Or.inr (Or.inl z))
          · exact Or.inr (Or.inr (Or.inr (Or.inl z)))
          · exact Or.inr (Or.inr (Or.inr (Or.inr z)))
          · exact absurd z hk1
        rcases hKl with hk | hk | hk | hk | hk
        · have iX : (Int32.ofNat (tP T) = 7) ↔ tP T = 7 := by rw [show (7 : Int32) = Int32.ofNat 7 from rfl, i_inj (by omega) (by omega)]
          have hmo : m_X10_mostOf (laK (xbN A) L q) = some 7 := by rw [hk]; rfl
          rw [hmo, if_neg (by rw [hk]; decide), hk]
          have e := rd 0 (tP T) (by omega) T2.1 (fun v75 => xob (some 7) (fun v76 => if v75 = v76 then xrk M2 (b + 54) 3 (xmb (m_X10_wrong M2 (b + 54) 3 (Int32.ofNat q)) (fun _ M73 => J M73)) else J M2))
          refine (congrArg (tcZ b A L T c q M) e).mpr ?_
          rw [xob_v]
          by_cases d : tP T = 7
          · rw [if_pos (iX.mpr d)]
            exact bad3 hk1 (Or.inr (Or.inl ⟨hk, d⟩))
          · rw [if_neg (fun z => d (iX.mp z))]
            refine good hk1 fun z => ?_
            rcases z with z | ⟨z, z'⟩ | ⟨z, z'⟩ | ⟨z, z'⟩
            · exact c60 z
            · exact d z'
            · exact absurd (hk.symm.trans z) (by decide)
            · exact absurd (hk.symm.trans z) (by decide)
        · have iX : (Int32.ofNat (tJ T) = 6) ↔ tJ T = 6 := by rw [show (6 : Int32) = Int32.ofNat 6 from rfl, i_inj (by omega) (by omega)]
          have hmo : m_X10_mostOf (laK (xbN A) L q) = some 6 := by rw [hk]; rfl
          rw [hmo, if_neg (by rw [hk]; decide), hk]
          have e := rd 1 (tJ T) (by omega) T2.2.1 (fun v75 => xob (some 6) (fun v76 => if v75 = v76 then xrk M2 (b + 54) 3 (xmb (m_X10_wrong M2 (b + 54) 3 (Int32.ofNat q)) (fun _ M73 => J M73)) else J M2))
          refine (congrArg (tcZ b A L T c q M) e).mpr ?_
          rw [xob_v]
          by_cases d : tJ T = 6
          · rw [if_pos (iX.mpr d)]
            exact bad3 hk1 (Or.inr (Or.inr (Or.inl ⟨hk, d⟩)))
          · rw [if_neg (fun z => d (iX.mp z))]
            refine good hk1 fun z => ?_
            rcases z with z | ⟨z, z'⟩ | ⟨z, z'⟩ | ⟨z, z'⟩
            · exact c60 z
            · exact absurd (hk.symm.trans z) (by decide)
            · exact d z'
            · exact absurd (hk.symm.trans z) (by decide)
        · have iX : (Int32.ofNat (tS T) = 12) ↔ tS T = 12 := by rw [show (12 : Int32) = Int32.ofNat 12 from rfl, i_inj (by omega) (by omega)]
          have hmo : m_X10_mostOf (laK (xbN A) L q) = some 12 := by rw [hk]; rfl
          rw [hmo, if_neg (by rw [hk]; decide), hk]
          have e := rd 2 (tS T) (by omega) T2.2.2.1 (fun v75 => xob (some 12) (fun v76 => if v75 = v76 then xrk M2 (b + 54) 3 (xmb (m_X10_wrong M2 (b + 54) 3 (Int32.ofNat q)) (fun _ M73 => J M73)) else J M2))
          refine (congrArg (tcZ b A L T c q M) e).mpr ?_
          rw [xob_v]
          by_cases d : tS T = 12
          · rw [if_pos (iX.mpr d)]
            exact bad3 hk1 (Or.inr (Or.inr (Or.inr ⟨hk, d⟩)))
          · rw [if_neg (fun z => d (iX.mp z))]
            refine good hk1 fun z => ?_
            rcases z with z | ⟨z, z'⟩ | ⟨z, z'⟩ | ⟨z, z'⟩
            · exact c60 z
            · exact absurd (hk.symm.trans z) (by decide)
            · exact absurd (hk.symm.trans z) (by decide)
            · exact d z'
        · rw [if_pos (by rw [hk]; decide)]
          refine good hk1 fun z => ?_
          rcases z with z | ⟨z, z'⟩ | ⟨z, z'⟩ | ⟨z, z'⟩
          · exact c60 z
          · exact absurd (hk.symm.trans z) (by decide)
          · exact absurd (hk.symm.trans z) (by decide)
          · exact absurd (hk.symm.trans z) (by decide)
        · rw [if_pos (by rw [hk]; decide)]
          refine good hk1 fun z => ?_
          rcases z with z | ⟨z, z'⟩ | ⟨z, z'⟩ | ⟨z, z'⟩
          · exact c60 z
          · exact absurd (hk.symm.trans z) (by decide)
          · exact absurd (hk.symm.trans z) (by decide)
          · exact absurd (hk.symm.trans z) (by decide)
end LAND
