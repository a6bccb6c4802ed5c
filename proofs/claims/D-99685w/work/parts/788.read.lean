/-! A LAW read: the twin's sums; whole -/
section LAW
variable {b : Nat} {M : dwSt} {A : dvA} {ρ : Type} {L k : Nat} {pre : List (Int32 × Int32)} {r : rsP}
theorem t_prod {p : Nat} {recS : Nat → rsL} {rec : dwSt → Nat → Option (Unit × dwSt)} (hr : hTec b A L k recS rec) (hL : L < 900000) (h : tAt b M A L k pre p) : tZ b A L k pre M (prG (xbN A) L recS k p) (F_X10_product rec M (b + 54)) := by
  have sh := h.1.1.1
  have hp := h.1.ok.2.2
  obtain ⟨M2, e2, f2, a2⟩ := t_one hr h
  have a2' : tQx b M2 A L k pre (unG (xbN A) L recS k p) := a2
  unfold F_X10_product prG
  rw [xrk_u (kd54 sh), e2, xmb_v, jn_u, jn_u]
  cases hu : unG (xbN A) L recS k p with
  | inr e =>
    rw [hu] at a2'
    have a2b : tSt b M2 A L (.inr e) := a2'
    rw [t_prB a2b]
    exact ⟨M2, rfl, f2, a2b⟩
  | inl u =>
    rw [hu] at a2'
    have a2b : tAt b M2 A L k (pre ++ u.1.1) u.2 := a2'
    have hup := a2b.1.ok.2.2
    exact tZ_pre f2 (t_prF hr L 1000000 u.2 M2 u.1 (by omega) (by omega) a2b)
theorem t_smF {recS : Nat → rsL} {rec : dwSt → Nat → Option (Unit × dwSt)} (hr : hTec b A L k recS rec) (hL : L < 900000) : ∀ n F p M t, L - p ≤ n → n < F → tAt b M A L k (pre ++ t.1) p → tZ b A L k pre M (smF (xbN A) L recS k n t p) (L_X10_sum_4 rec (b + 54) (fun M3 => some ((), M3)) (fun M4 => some ((), M4)) F M) := by
  -- what the both signs come to
  have both : ∀ (F p : Nat) (M : dwSt) (t : tmT), tAt b M A L k (pre ++ t.1) p → ∃ M9, L_X10_sum_4 rec (b + 54) (fun M3 => some ((), M3)) (fun M4 => some ((), M4)) (F + 1) M = (if smO (xbN A) L (blS (xbN A) L p) = -1 then some ((), M9) else xrk M9 (b + 54) 3 (xmb (F_X10_product rec M9 (b + 54)) (fun _ M11 => xrk M11 (b + 54) 3 (xmb (m_X10_notes M11 (b + 54) (smO (xbN A) L (blS (xbN A) L p)) 0) (fun _ M13 => L_X10_sum_4 rec (b + 54) (fun M3 => some ((), M3)) (fun M4 => some ((), M4)) F M13))))) ∧ fr (sTm b) nz 0 0 M M9 ∧ tAt b M9 A L k (pre ++ t.1) (if smO (xbN A) L (blS (xbN A) L p) = -1 then blS (xbN A) L p else blS (xbN A) L p + 1) := by
    intro F p M t h
    have sh := h.1.1.1
    have h49 := h.1.ok.2.1
    obtain ⟨M2, e2, f2, a2⟩ := t_takesS (c := 43) h (by omega)
    have e2' : m_X10_takesSign M (b + 54) 43 = some (if blS (xbN A) L p < L ∧ xbN A (blS (xbN A) L p) = 43 then 1 else 0, M2) := e2
    have s2 := a2.1.1.1
    rw [L_X10_sum_4, xgI_u (by rw [kd54 sh]; rfl), if_pos h49, xrk_u (kd54 sh), e2', xmb_v, jn_u]
    unfold smO
    by_cases c1 : blS (xbN A) L p < L ∧ xbN A (blS (xbN A) L p) = 43
    · rw [if_pos c1] at a2
      refine ⟨M2, ?_, f2, ?_⟩
      · rw [if_pos c1, if_pos c1, if_neg (show ¬ (1 : Int32) = 0 by decide), if_neg (show ¬ (2 : Int32) = -1 by decide)]
        dsimp only
        rw [if_neg (show ¬ (2 : Int32) = -1 by decide)]
      · rw [if_pos c1, if_neg (show ¬ (2 : Int32) = -1 by decide)]; exact a2
    · rw [if_neg c1] at a2
      obtain ⟨M4, e4, f4, a4⟩ := t_takesS (c := 45) a2 (by omega)
      rw [blS_bl] at e4 a4
      have e4' : m_X10_takesSign M2 (b + 54) 45 = some (if blS (xbN A) L p < L ∧ xbN A (blS (xbN A) L p) = 45 then 1 else 0, M4) := e4
      rw [if_neg c1, if_neg c1, if_pos rfl, xrk_u (kd54 s2), e4', xmb_v]
      refine ⟨M4, ?_, f2.t0 f4, ?_⟩
      · by_cases c3 : blS (xbN A) L p < L ∧ xbN A (blS (xbN A) L p) = 45
        · rw [if_pos c3, if_pos c3, if_neg (show ¬ (1 : Int32) = 0 by decide), if_neg (show ¬ (3 : Int32) = -1 by decide)]
          dsimp only
          rw [if_neg (show ¬ (3 : Int32) = -1 by decide)]
        · rw [if_neg c3, if_neg c3, if_pos rfl, if_pos rfl]
          dsimp only
          rw [if_pos rfl]
      · by_cases c3 : blS (xbN A) L p < L ∧ xbN A (blS (xbN A) L p) = 45
        · rw [if_pos c3] at a4
          rw [if_pos c3, if_neg (show ¬ (3 : Int32) = -1 by decide)]; exact a4
        · rw [if_neg c3] at a4
          rw [if_neg c3, if_pos rfl]; exact a4
  intro n
  induction n with
  | zero =>
    intro F p M t h1 h2 h
    obtain ⟨F, rfl⟩ : ∃ F', F = F' + 1 := ⟨F - 1, by omega⟩
    obtain ⟨M9, e9, f9, a9⟩ := both F p M t h
    have c : smO (xbN A) L (blS (xbN A) L p) = -1 := by
      by_cases c : smO (xbN A) L (blS (xbN A) L p) = -1
      · exact c
      · have := (smO_lt c).1
        have := (blS_le (X := xbN A) (L := L) _ p rfl).1
        omega
    rw [if_pos c] at e9 a9
    rw [e9, smF]
    exact ⟨M9, rfl, f9, a9⟩
  | succ n ih =>
    intro F p M t h1 h2 h
    obtain ⟨F, rfl⟩ : ∃ F', F = F' + 1 := ⟨F - 1, by omega⟩
    obtain ⟨M9, e9, f9, a9⟩ := both F p M t h
    have hb := (blS_le (X := xbN A) (L := L) _ p rfl).1
    rw [smF]
    by_cases c : smO (xbN A) L (blS (xbN A) L p) = -1
    · rw [if_pos c] at e9 a9 ⊢
      rw [e9]
      exact ⟨M9, rfl, f9, a9⟩
    · rw [if_neg c] at e9 a9 ⊢
      have s9 := a9.1.1.1
      have hlt := (smO_lt c).1
      obtain ⟨M10, e10, f10, a10⟩ := t_prod hr hL a9
      have a10' : tQx b M10 A L k (pre ++ t.1) (prG (xbN A) L recS k (blS (xbN A) L p + 1)) := a10
      have s10 := (tQ.st a10').1.1
      obtain ⟨F, rfl⟩ : ∃ F', F = F' + 1 := ⟨F - 1, by omega⟩
      rw [e9, xrk_u (kd54 s9), e10, xmb_v, xrk_u (kd54 s10)]
      cases hu : prG (xbN A) L recS k (blS (xbN A) L p + 1) with
      | inr e =>
        rw [hu] at a10'
        have a10b : tSt b M10 A L (.inr e) := a10'
        obtain ⟨M11, e11, f11, a11⟩ := q_notes (b := b) (M := M10) (A := A) (L := L) (k := k) (pre := pre) (r := .inr e) (o := smO (xbN A) L (blS (xbN A) L p)) (v := 0) a10b (fun p z => by cases z)
        rw [e11, xmb_v, t_smB (show tSt b M11 A L (.inr e) from a11)]
        exact ⟨M11, rfl, (f9.t0 f10).t0 f11, a11⟩
      | inl u =>
        rw [hu] at a10'
        have a10b : tAt b M10 A L k (pre ++ t.1 ++ u.1.1) u.2 := a10'
        have hl : (pre ++ t.1 ++ u.1.1).length + 1 ≤ u.2 := by
          have := (prG_ok (X := xbN A) (L := L) (k := k) (p := blS (xbN A) L p + 1) (rec := recS) (by omega) hr.2.2 u.1 u.2 hu).1
          have h9 : (pre ++ t.1).length ≤ p := h.2.2.2.2.2
          rw [List.length_append]
          omega
        obtain ⟨M11, e11, f11, a11⟩ := q_notes (o := smO (xbN A) L (blS (xbN A) L p)) (v := 0) (show tQ b M10 A L k (pre ++ t.1 ++ u.1.1) (.inl u.2) from a10b) (fun p z => by cases z; exact hl)
        have a11' : tAt b M11 A L k (pre ++ (opT (smO (xbN A) L (blS (xbN A) L p)) t u.1).1) u.2 := by
          have a11b : tAt b M11 A L k (pre ++ t.1 ++ u.1.1 ++ [(smO (xbN A) L (blS (xbN A) L p), 0)]) u.2 := a11
          rw [List.append_assoc, List.append_assoc, ← List.append_assoc t.1] at a11b
          exact a11b
        have hup : blS (xbN A) L p + 1 ≤ u.2 := by
          have := (prG_ok (X := xbN A) (L := L) (k := k) (p := blS (xbN A) L p + 1) (rec := recS) (by omega) hr.2.2 u.1 u.2 hu).1
          omega
        rw [e11, xmb_v]
        exact tZ_pre ((f9.t0 f10).t0 f11) (ih (F + 1) u.2 M11 _ (by omega) (by omega) a11')
theorem t_sum {p : Nat} {recS : Nat → rsL} {rec : dwSt → Nat → Option (Unit × dwSt)} (hr : hTec b A L k recS rec) (hL : L < 900000) (h : tAt b M A L k pre p) : tZ b A L k pre M (smG (xbN A) L recS k p) (F_X10_sum rec M (b + 54)) := by
  have sh := h.1.1.1
  obtain ⟨M2, e2, f2, a2⟩ := t_prod hr hL h
  have a2' : tQx b M2 A L k pre (prG (xbN A) L recS k p) := a2
  unfold F_X10_sum smG
  rw [xrk_u (kd54 sh), e2, xmb_v, jn_u, jn_u]
  cases hu : prG (xbN A) L recS k p with
  | inr e =>
    rw [hu] at a2'
    have a2b : tSt b M2 A L (.inr e) := a2'
    rw [t_smB a2b]
    exact ⟨M2, rfl, f2, a2b⟩
  | inl u =>
    rw [hu] at a2'
    have a2b : tAt b M2 A L k (pre ++ u.1.1) u.2 := a2'
    have hup := a2b.1.ok.2.2
    exact tZ_pre f2 (t_smF hr hL L 1000000 u.2 M2 u.1 (by omega) (by omega) a2b)
theorem t_smS (hL : L < 900000) : ∀ k d, k < d → ∀ p pre M, tAt b M A L k pre p → tZ b A L k pre M (smS (xbN A) L k p) (m_X10_sum d M (b + 54)) := by
  intro k
  induction k with
  | zero =>
    intro d hd p pre M h
    obtain ⟨d, rfl⟩ : ∃ d', d = d' + 1 := ⟨d - 1, by omega⟩
    exact t_sum (recS := fun _ => .inr (1, 0)) (rec := m_X10_sum d) ⟨fun k' p pre M e => absurd e (by omega), fun k' M e he => absurd he (by omega), fun p _ t p' e => by cases e⟩ hL h
  | succ k ih =>
    intro d hd p pre M h
    obtain ⟨d, rfl⟩ : ∃ d', d = d' + 1 := ⟨d - 1, by omega⟩
    refine t_sum (recS := smS (xbN A) L k) (rec := m_X10_sum d) ⟨fun k' p1 pre1 M1 e hp h1 => ?_, fun k' M1 e he h1 => ?_, fun p1 hp => smS_ok k p1 hp⟩ hL h
    · have ek : k' = k := by omega
      subst ek
      exact ih d (by omega) p1 pre1 M1 h1
    · obtain ⟨d, rfl⟩ : ∃ d', d = d' + 1 := ⟨d - 1, by omega⟩
      exact t_sumB h1
end LAW
