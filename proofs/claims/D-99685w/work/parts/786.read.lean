/-! A LAW read: the twin's units -/
section LAW
variable {b : Nat} {M : dwSt} {A : dvA} {ρ : Type} {L k : Nat} {pre : List (Int32 × Int32)} {r : rsP}
def hTec (b : Nat) (A : dvA) (L k : Nat) (recS : Nat → rsL) (rec : dwSt → Nat → Option (Unit × dwSt)) : Prop := (∀ k' p pre M, k = k' + 1 → p ≤ L → tAt b M A L k' pre p → tZ b A L k' pre M (recS p) (rec M (b + 54))) ∧ (∀ k' M e, k = k' + 1 → tSt b M A L (.inr e) → rec M (b + 54) = some ((), M)) ∧ ∀ p, p ≤ L → okL L p (recS p)
theorem q_rec {recS : Nat → rsL} {rec : dwSt → Nat → Option (Unit × dwSt)} {k' : Nat} (hr : hTec b A L k recS rec) (hk : k = k' + 1) (h : tQ b M A L k' pre r) : ∃ M2, rec M (b + 54) = some ((), M2) ∧ fr (sTm b) nz 0 0 M M2 ∧ tQx b M2 A L k' pre (bndL r recS) := by
  cases r with
  | inl p => exact hr.1 k' p pre M hk (tAt.to h (fr.refl (S := nz) (Z := nz) M) (fun _ _ z => False.elim z) h.2.2.2.2.2 h.1).1.ok.2.2 h
  | inr e => exact ⟨M, hr.2.1 k' M e hk h, fr.refl M, h⟩
theorem tQ_map {t : tmT} (h : tQ b M A L k (pre ++ t.1) r) : tQx b M A L k pre (mapL t r) := by
  cases r with
  | inl p => exact h
  | inr e => exact h
theorem tZ_bad {n u : Nat} {M1 : dwSt} {e : Nat × Nat} (f : fr (sTm b) nz 0 0 M M1) (h : tSt b M1 A L (.inr e)) : tZ b A L k pre M (.inr e) (some ((), M1)) := ⟨M1, rfl, f, h⟩
theorem tZ_pre {M1 : dwSt} {x : rsL} {z : Option (Unit × dwSt)} (f : fr (sTm b) nz 0 0 M M1) (h : tZ b A L k pre M1 x z) : tZ b A L k pre M x z := by
  obtain ⟨M2, e, f2, q⟩ := h
  exact ⟨M2, e, f.t0 f2, q⟩
theorem t_two {o : Int32} {q : Nat} {recS : Nat → rsL} {rec : dwSt → Nat → Option (Unit × dwSt)} (hr : hTec b A L k recS rec) (h : tAt b M A L k pre q) : tZ b A L k pre M (if k = 0 then .inr (3, q) else twG (xbN A) L recS (q + (wdS (xbN A) L q).length) o) (xrk M (b + 54) 3 (xmb (m_X10_opensOne M (b + 54)) (fun v28 M29 => if v28 = 0 then some ((), M29) else xrk M29 (b + 54) 3 (xmb (m_X10_skipWord M29 (b + 54)) (fun _ M31 => xrk M31 (b + 54) 3 (xmb (m_X10_sign M31 (b + 54) 91) (fun _ M33 => xrk M33 (b + 54) 3 (xmb (rec M33 (b + 54)) (fun _ M35 => xrk M35 (b + 54) 3 (xmb (m_X10_sign M35 (b + 54) 44) (fun _ M37 => xrk M37 (b + 54) 3 (xmb (rec M37 (b + 54)) (fun _ M39 => xrk M39 (b + 54) 3 (xmb (m_X10_sign M39 (b + 54) 93) (fun _ M41 => xrk M41 (b + 54) 3 (xmb (m_X10_notes M41 (b + 54) o 0) (fun _ M43 => xgI M43 52 (b + 54) (fun v44 => xpI M43 52 (b + 54) (v44 - 1) (fun M45 => some ((), M45)))))))))))))))))))) := by
  have sh := h.1.1.1
  obtain ⟨o1, o2⟩ := t_opens1 h
  cases k with
  | zero =>
    obtain ⟨M2, e2, f2, s2⟩ := o1 rfl
    rw [if_pos rfl, xrk_u (kd54 sh), e2, xmb_v, if_pos rfl]
    exact ⟨M2, rfl, f2, s2⟩
  | succ k =>
    rw [if_neg (by omega)]
    obtain ⟨M2, e2, f2, a2⟩ := o2 k rfl
    have hk6 := h.2.2.2.1
    have s2 := a2.1.1.1
    obtain ⟨M3, e3, f3, k3⟩ := tS_skip a2.1
    have s3 := k3.1.1
    have a3 : tQ b M3 A L k pre (.inl (q + (wdS (xbN A) L q).length)) := a2.to f3 (fun a k z => ⟨z.1, by have := z.2; omega⟩) (by have := a2.2.2.2.2.2; omega) k3
    obtain ⟨M4, e4, f4, a4, -⟩ := q_sign (c := 91) a3 (by omega)
    have e4' : m_X10_sign M3 (b + 54) 91 = some ((), M4) := e4
    have s4 := a4.st.1.1
    obtain ⟨M5, e5, f5, a5⟩ := q_rec hr rfl a4
    have s5 := (tQ.st a5).1.1
    obtain ⟨M6, e6, f6, a6, -⟩ := q_sign (c := 44) a5 (by omega)
    have e6' : m_X10_sign M5 (b + 54) 44 = some ((), M6) := e6
    have s6 := a6.st.1.1
    obtain ⟨M7, e7, f7, a7⟩ := q_rec hr rfl a6
    have s7 := (tQ.st a7).1.1
    obtain ⟨M8, e8, f8, a8, l8⟩ := q_sign (c := 93) a7 (by omega)
    have e8' : m_X10_sign M7 (b + 54) 93 = some ((), M8) := e8
    have s8 := a8.st.1.1
    obtain ⟨M9, e9, f9, a9⟩ := q_notes (o := o) (v := 0) a8 l8
    obtain ⟨M10, e10, f10, a10⟩ := q_close (k := k + 1) a9 rfl hk6 (fun M45 => some ((), M45))
    rw [xrk_u (kd54 sh), e2, xmb_v, if_neg (show ¬ (1 : Int32) = 0 by decide), xrk_u (kd54 s2), e3, xmb_v, xrk_u (kd54 s3), e4', xmb_v, xrk_u (kd54 s4), e5, xmb_v, xrk_u (kd54 s5), e6', xmb_v, xrk_u (kd54 s6), e7, xmb_v, xrk_u (kd54 s7), e8', xmb_v, xrk_u (kd54 s8), e9, xmb_v, e10]
    refine ⟨M10, rfl, (((((((f2.t0 (f3.mono sPt_m (fun _ _ z => z) (Nat.le_refl _) (Nat.le_refl _))).t0 f4).t0 f5).t0 f6).t0 f7).t0 f8).t0 f9).t0 f10, ?_⟩
    unfold twG
    refine tQ_map ?_
    have ea : (pre ++ (tmL (bndL (sgR (xbN A) L 91 (.inl (q + (wdS (xbN A) L q).length))) recS)).1 ++ (tmL (bndL (sgR (xbN A) L 44 (poL (bndL (sgR (xbN A) L 91 (.inl (q + (wdS (xbN A) L q).length))) recS))) recS)).1 ++ [(o, 0)]) = pre ++ (opT o (tmL (twA (xbN A) L recS (q + (wdS (xbN A) L q).length))) (tmL (twB (xbN A) L recS (q + (wdS (xbN A) L q).length)))).1 := by
      show _ = pre ++ ((tmL _).1 ++ (tmL _).1 ++ [(o, 0)])
      rw [List.append_assoc, List.append_assoc, List.append_assoc]
      rfl
    rw [← ea]
    exact a10
theorem t_par {q : Nat} {recS : Nat → rsL} {rec : dwSt → Nat → Option (Unit × dwSt)} (hr : hTec b A L k recS rec) (h : tAt b M A L k pre q) (hq : q < L) : tZ b A L k pre M (if k = 0 then .inr (3, q) else mapL (tmL (recS (q + 1))) (sgR (xbN A) L 41 (poL (recS (q + 1))))) (xrk M (b + 54) 3 (xmb (m_X10_opensOne M (b + 54)) (fun v18 M19 => if v18 = 0 then some ((), M19) else xgI M19 48 (b + 54) (fun v20 => xpI M19 48 (b + 54) (v20 + 1) (fun M21 => xrk M21 (b + 54) 3 (xmb (rec M21 (b + 54)) (fun _ M23 => xrk M23 (b + 54) 3 (xmb (m_X10_sign M23 (b + 54) 41) (fun _ M25 => xgI M25 52 (b + 54) (fun v26 => xpI M25 52 (b + 54) (v26 - 1) (fun M27 => some ((), M27)))))))))))) := by
  have sh := h.1.1.1
  obtain ⟨o1, o2⟩ := t_opens1 h
  cases k with
  | zero =>
    obtain ⟨M2, e2, f2, s2⟩ := o1 rfl
    rw [if_pos rfl, xrk_u (kd54 sh), e2, xmb_v, if_pos rfl]
    exact ⟨M2, rfl, f2, s2⟩
  | succ k =>
    rw [if_neg (by omega)]
    obtain ⟨M2, e2, f2, a2⟩ := o2 k rfl
    have hk6 := h.2.2.2.1
    have s2 := a2.1.1.1
    have hn := shN s2
    obtain ⟨g48, g49, gp⟩ := a2.1.ok
    have f3 : fr (sPt b) nz 0 0 M2 (dwPI M2 (b + 54) 48 (Int32.ofNat (q + 1))) := (fr.refl M2).pI _ (Or.inl ⟨rfl, rfl⟩)
    have k3 : tSt b (dwPI M2 (b + 54) 48 (Int32.ofNat (q + 1))) A L (.inl (q + 1)) := tSt_ok (a2.1.1.fr f3 (fun k z => by have := z.1; omega) nz_p) ((f3.i (by omega) (by unfold sPt; omega)).trans a2.1.2.1) a2.1.2.2.1 (by omega) di_eq ((f3.i (by omega) (by unfold sPt; omega)).trans g49)
    have s3 := k3.1.1
    have a3 : tQ b (dwPI M2 (b + 54) 48 (Int32.ofNat (q + 1))) A L k pre (.inl (q + 1)) := a2.to f3 (fun a k z => ⟨z.1, by have := z.2; omega⟩) (by have := a2.2.2.2.2.2; omega) k3
    rw [xrk_u (kd54 sh), e2, xmb_v, if_neg (show ¬ (1 : Int32) = 0 by decide), xgI_u (by rw [kd54 s2]; rfl), g48, i_succ, xpI_u (by rw [kd54 s2]; rfl)]
    generalize dwPI M2 (b + 54) 48 (Int32.ofNat (q + 1)) = M3 at *
    obtain ⟨M5, e5, f5, a5⟩ := q_rec hr rfl a3
    have s5 := (tQ.st a5).1.1
    obtain ⟨M6, e6, f6, a6, -⟩ := q_sign (c := 41) a5 (by omega)
    have e6' : m_X10_sign M5 (b + 54) 41 = some ((), M6) := e6
    have s6 := a6.st.1.1
    obtain ⟨M10, e10, f10, a10⟩ := q_close (k := k + 1) a6 rfl hk6 (fun M45 => some ((), M45))
    rw [xrk_u (kd54 s3), e5, xmb_v, xrk_u (kd54 s5), e6', xmb_v, e10]
    exact ⟨M10, rfl, (((f2.t0 (f3.mono sPt_m (fun _ _ z => z) (Nat.le_refl _) (Nat.le_refl _))).t0 f5).t0 f6).t0 f10, tQ_map a10⟩
theorem tk10 {X : Nat → Nat} {L q : Nat} (cs : List Nat) (hc : cs.length < 10) : (wdS X L q).take 10 = cs ↔ wdS X L q = cs := by
  constructor
  · intro e
    have hl := congrArg List.length e
    rw [List.length_take] at hl
    rw [List.take_of_length_le (by omega)] at e
    exact e
  · intro e; rw [e, List.take_of_length_le (by omega)]
theorem unG_w {X : Nat → Nat} {L k p : Nat} {rec : Nat → rsL} {ws : List Nat} {c : Nat} (h : wdS X L (blS X L p) = c :: ws) (hc : smN c) : unG X L rec k p = unW X L rec k (blS X L p) := by
  have h0 := wdS_get (X := X) (L := L) 0 (blS X L p) c (by rw [h]; rfl)
  rw [Nat.add_zero] at h0
  unfold unG
  rw [if_neg (fun z => by have := z.2; rw [h0.1] at this; have := hc.1; omega), if_neg (fun z => by have := z.2; rw [h0.1] at this; have := this.2; have := hc.1; omega)]
/-- not a bracket: a known word, or a number -/
theorem unG_n {X : Nat → Nat} {L k p : Nat} {rec : Nat → rsL} (hb : ¬ (blS X L p < L ∧ X (blS X L p) = 40)) (h : unV X L (blS X L p) = -1) : unG X L rec k p = unN X L (blS X L p) := by
  unfold unG
  rw [if_neg hb]
  by_cases c : blS X L p < L ∧ dgN (X (blS X L p))
  · rw [if_pos c]
  · rw [if_neg c]
    unfold unW unN nbS
    rw [if_pos h, blS_bl, if_neg c]
theorem unG_k {X : Nat → Nat} {L k p : Nat} {rec : Nat → rsL} (hb : ¬ (blS X L p < L ∧ X (blS X L p) = 40)) (h : ¬ unV X L (blS X L p) = -1) (n1 : ¬ wdS X L (blS X L p) = kwLeast) (n2 : ¬ wdS X L (blS X L p) = kwMost) : unG X L rec k p = .inl (faT (unV X L (blS X L p)).toNatClampNeg, blS X L p + (wdS X L (blS X L p)).length) := by
  obtain ⟨a1, a2, a3, a4, a5⟩ := swUnit_len (ws := (wdS X L (blS X L p)).take 10) (v := unV X L (blS X L p)) rfl h
  have c : ¬ (blS X L p < L ∧ dgN (X (blS X L p))) := fun z => by
    have hs : ¬ smN (X (blS X L p)) := fun w => by have := w.1; have := z.2.2; omega
    rw [wdS_n (fun w => hs w.2)] at a1
    exact absurd a1 (by decide)
  unfold unG
  rw [if_neg hb, if_neg c]
  unfold unW
  rw [if_neg h, if_neg (fun z => by
    rcases z with z | z
    · exact n1 ((tk10 kwLeast (by decide)).mp (a4 z))
    · exact n2 ((tk10 kwMost (by decide)).mp (a5 z)))]
end LAW
