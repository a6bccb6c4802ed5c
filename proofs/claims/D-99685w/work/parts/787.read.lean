/-! A LAW read: the twin's products and sums -/
section LAW
variable {b : Nat} {M : dwSt} {A : dvA} {ρ : Type} {L k : Nat} {pre : List (Int32 × Int32)} {r : rsP}
theorem t_one {p : Nat} {recS : Nat → rsL} {rec : dwSt → Nat → Option (Unit × dwSt)} (hr : hTec b A L k recS rec) (h : tAt b M A L k pre p) : tZ b A L k pre M (unG (xbN A) L recS k p) (F_X10_one rec M (b + 54)) := by
  have sh := h.1.1.1
  have h49 := h.1.ok.2.1
  obtain ⟨M2, e2, f2, k2⟩ := tS_bl h.1
  have hle := (blS_le (X := xbN A) (L := L) _ p rfl).1
  have hpl : pre.length ≤ p := h.2.2.2.2.2
  have a2 := h.to f2 (fun a k z => ⟨z.1, by have := z.2; omega⟩) (show pre.length ≤ blS (xbN A) L p by omega) k2
  have s2 := a2.1.1.1
  obtain ⟨M3, e3, f3, k3⟩ := tS_isWord (cs := kwLeast) (a1 := 12) (a2 := 5) (a3 := 1) (a4 := 19) (a5 := 20) (a6 := 0) a2.1 (by decide +kernel) (by decide +kernel) (by decide +kernel)
  rw [blS_bl] at e3 k3
  have a3 := a2.to f3 (fun a k z => ⟨z.1, by have := z.2; omega⟩) (by omega) k3
  have s3 := a3.1.1.1
  have F3 : fr (sTm b) nz 0 0 M M3 := (f2.mono sPt_m (fun _ _ z => z) (Nat.le_refl _) (Nat.le_refl _)).t0 (f3.mono sPt_m (fun _ _ z => z) (Nat.le_refl _) (Nat.le_refl _))
  unfold F_X10_one
  rw [xgI_u (by rw [kd54 sh]; rfl), if_pos h49, xrk_u (kd54 sh), e2, xmb_v, xrk_u (kd54 s2), e3, xmb_v, jn_u]
  by_cases c1 : wdS (xbN A) L (blS (xbN A) L p) = kwLeast
  · rw [if_pos c1, if_neg (show ¬ (1 : Int32) = 0 by decide)]
    dsimp only
    rw [if_neg (show ¬ (7 : Int32) = -1 by decide)]
    have hV : unV (xbN A) L (blS (xbN A) L p) = 10 := by unfold unV; rw [c1]; decide +kernel
    have hU : unG (xbN A) L recS k p = if k = 0 then .inr (3, blS (xbN A) L p) else twG (xbN A) L recS (blS (xbN A) L p + (wdS (xbN A) L (blS (xbN A) L p)).length) 7 := by
      rw [unG_w (c := 108) (ws := [101, 97, 115, 116]) c1 (by decide)]
      unfold unW
      rw [hV, if_neg (show ¬ (10 : Int32) = -1 by decide), if_pos (Or.inl rfl), if_pos rfl]
    rw [hU]
    exact tZ_pre F3 (t_two hr a3)
  rw [if_neg c1, if_pos rfl]
  obtain ⟨M4, e4, f4, k4⟩ := tS_isWord (cs := kwMost) (a1 := 13) (a2 := 15) (a3 := 19) (a4 := 20) (a5 := 0) (a6 := 0) a3.1 (by decide +kernel) (by decide +kernel) (by decide +kernel)
  rw [blS_bl] at e4 k4
  have a4 := a3.to f4 (fun a k z => ⟨z.1, by have := z.2; omega⟩) (by omega) k4
  have s4 := a4.1.1.1
  have F4 := F3.t0 (f4.mono sPt_m (fun _ _ z => z) (Nat.le_refl _) (Nat.le_refl _))
  rw [xrk_u (kd54 s3), e4, xmb_v]
  by_cases c2 : wdS (xbN A) L (blS (xbN A) L p) = kwMost
  · rw [if_pos c2, if_neg (show ¬ (1 : Int32) = 0 by decide)]
    dsimp only
    rw [if_neg (show ¬ (8 : Int32) = -1 by decide)]
    have hV : unV (xbN A) L (blS (xbN A) L p) = 11 := by unfold unV; rw [c2]; decide +kernel
    have hU : unG (xbN A) L recS k p = if k = 0 then .inr (3, blS (xbN A) L p) else twG (xbN A) L recS (blS (xbN A) L p + (wdS (xbN A) L (blS (xbN A) L p)).length) 8 := by
      rw [unG_w (c := 109) (ws := [111, 115, 116]) c2 (by decide)]
      unfold unW
      rw [hV, if_neg (show ¬ (11 : Int32) = -1 by decide), if_pos (Or.inr rfl), if_neg (show ¬ (11 : Int32) = 10 by decide)]
    rw [hU]
    exact tZ_pre F4 (t_two hr a4)
  rw [if_neg c2, if_pos rfl]
  dsimp only
  rw [if_pos rfl]
  have g48 := a4.1.ok.1
  have hq := a4.1.ok.2.2
  have hb := t_byteAt a4.1.2.2.1 a4.1.1 a4.1.2.1 (show blS (xbN A) L p < 2147483648 by have := a4.1.1.2.1; have := a4.1.2.2.1; omega)
  have hcc := by32 (X := xbN A) (L := L) (q := blS (xbN A) L p) (c := 40) (a4.1.lt _) (by omega)
  have hcc' : (byT (xbN A) L (blS (xbN A) L p) = 40) ↔ (blS (xbN A) L p < L ∧ xbN A (blS (xbN A) L p) = 40) := hcc
  rw [xgI_u (by rw [kd54 s4]; rfl), g48, xrk_u (kd54 s4), hb, xob_v]
  by_cases c3 : blS (xbN A) L p < L ∧ xbN A (blS (xbN A) L p) = 40
  · rw [if_pos (hcc'.mpr c3)]
    have hU : unG (xbN A) L recS k p = if k = 0 then .inr (3, blS (xbN A) L p) else mapL (tmL (recS (blS (xbN A) L p + 1))) (sgR (xbN A) L 41 (poL (recS (blS (xbN A) L p + 1)))) := by
      unfold unG
      rw [if_pos c3]
    rw [hU]
    exact tZ_pre F4 (t_par hr a4 c3.1)
  rw [if_neg (fun z => c3 (hcc'.mp z))]
  obtain ⟨M5, e5, f5, k5⟩ := t_knHere a4.1 blS_bl c1 c2
  have s5 := k5.1.1
  have F5 := F4.t0 (f5.mono sPt_m (fun _ _ z => z) (Nat.le_refl _) (Nat.le_refl _))
  rw [xrk_u (kd54 s4), e5, xmb_v]
  by_cases c5 : unV (xbN A) L (blS (xbN A) L p) = -1
  · rw [if_pos c5] at k5 ⊢
    rw [unG_n c3 c5]
    have a5 := a4.to f5 (fun a k z => ⟨z.1, by have := z.2; omega⟩) (by omega) k5
    obtain ⟨v, M6, e6, f6, k6, hv⟩ := tS_num (lo := 0) (hi := 999) k5
    have s6 := k6.1.1
    have F6 := F5.t0 (f6.mono sWr_m (fun _ _ z => z) (Nat.le_refl _) (Nat.le_refl _))
    have k6' : tSt b M6 A L (poR (nbS (xbN A) L 0 999 (blS (xbN A) L p))) := k6
    have hv' : v = Int32.ofNat (vaR (nbS (xbN A) L 0 999 (blS (xbN A) L p))) := hv
    rw [xrk_u (kd54 s5), e6, xmb_v, xrk_u (kd54 s6)]
    unfold unN
    cases hx : nbS (xbN A) L 0 999 (blS (xbN A) L p) with
    | inr e =>
      rw [hx] at k6'
      obtain ⟨M7, e7, f7, a7⟩ := q_notes (b := b) (M := M6) (A := A) (L := L) (k := k) (pre := pre) (r := .inr e) (o := 0) (v := v) k6' (fun p z => by cases z)
      rw [e7, xmb_v]
      exact ⟨M7, rfl, F6.t0 f7, a7⟩
    | inl z =>
      rw [hx] at k6' hv'
      obtain ⟨n1, n2, n3, n4⟩ := nbS_le hq hx
      have a6 : tQ b M6 A L k pre (.inl z.2) := a5.to f6 (fun a k z => ⟨z.1, by have := z.2; omega⟩) (by omega) k6'
      obtain ⟨M7, e7, f7, a7⟩ := q_notes (o := 0) (v := v) a6 (fun p e => by cases e; omega)
      rw [e7, xmb_v]
      rw [show v = Int32.ofNat z.1 from hv'] at a7
      exact ⟨M7, rfl, F6.t0 f7, a7⟩
  · rw [if_neg c5] at k5 ⊢
    rw [unG_k c3 c5 c1 c2]
    obtain ⟨w1, w2, w3, w4, w5⟩ := swUnit_len (ws := (wdS (xbN A) L (blS (xbN A) L p)).take 10) (v := unV (xbN A) L (blS (xbN A) L p)) rfl c5
    rw [List.length_take] at w1 w2
    have a5 : tQ b M5 A L k pre (.inl (blS (xbN A) L p + (wdS (xbN A) L (blS (xbN A) L p)).length)) := a4.to f5 (fun a k z => ⟨z.1, by have := z.2; omega⟩) (by omega) k5
    obtain ⟨M7, e7, f7, a7⟩ := q_notes (o := 1) (v := unV (xbN A) L (blS (xbN A) L p)) a5 (fun p e => by cases e; omega)
    rw [xrk_u (kd54 s5), e7, xmb_v]
    refine ⟨M7, rfl, F5.t0 f7, ?_⟩
    rcases w3 with w3 | w3 | ⟨j, hj, w3⟩
    · exact absurd ((tk10 kwLeast (by decide)).mp (w4 w3)) c1
    · exact absurd ((tk10 kwMost (by decide)).mp (w5 w3)) c2
    · rw [w3, i_nat (by omega)]
      rw [w3] at a7
      exact a7
theorem t_oneB {e : Nat × Nat} {rec : dwSt → Nat → Option (Unit × dwSt)} (h : tSt b M A L (.inr e)) : F_X10_one rec M (b + 54) = some ((), M) := by
  unfold F_X10_one
  rw [xgI_u (by rw [kd54 h.1.1]; rfl), if_neg h.bad.2.2]
theorem t_prB {e : Nat × Nat} {rec : dwSt → Nat → Option (Unit × dwSt)} {K1 K2 : dwSt → Option ρ} {f : Nat} (h : tSt b M A L (.inr e)) : L_X10_product_4 rec (b + 54) K1 K2 (f + 1) M = K2 M := by
  rw [L_X10_product_4, xgI_u (by rw [kd54 h.1.1]; rfl), if_neg h.bad.2.2]
theorem t_prodB {e : Nat × Nat} {rec : dwSt → Nat → Option (Unit × dwSt)} (h : tSt b M A L (.inr e)) : F_X10_product rec M (b + 54) = some ((), M) := by
  unfold F_X10_product
  rw [xrk_u (kd54 h.1.1), t_oneB h, xmb_v, jn_u, jn_u, t_prB h]
theorem t_smB {e : Nat × Nat} {rec : dwSt → Nat → Option (Unit × dwSt)} {K1 K2 : dwSt → Option ρ} {f : Nat} (h : tSt b M A L (.inr e)) : L_X10_sum_4 rec (b + 54) K1 K2 (f + 1) M = K2 M := by
  rw [L_X10_sum_4, xgI_u (by rw [kd54 h.1.1]; rfl), if_neg h.bad.2.2]
theorem t_sumB {e : Nat × Nat} {rec : dwSt → Nat → Option (Unit × dwSt)} (h : tSt b M A L (.inr e)) : F_X10_sum rec M (b + 54) = some ((), M) := by
  unfold F_X10_sum
  rw [xrk_u (kd54 h.1.1), t_prodB h, xmb_v, jn_u, jn_u, t_smB h]
theorem if_ip {c : Prop} [Decidable c] {x y : Nat} (h : c) : (if c then x else y) = x := if_pos h
/-- one more after a sign -/
theorem t_prF {recS : Nat → rsL} {rec : dwSt → Nat → Option (Unit × dwSt)} (hr : hTec b A L k recS rec) : ∀ n F p M t, L - p ≤ n → n < F → tAt b M A L k (pre ++ t.1) p → tZ b A L k pre M (prF (xbN A) L recS k n t p) (L_X10_product_4 rec (b + 54) (fun M3 => some ((), M3)) (fun M4 => some ((), M4)) F M) := by
  -- what the three signs come to
  have three : ∀ (F p : Nat) (M : dwSt) (t : tmT), tAt b M A L k (pre ++ t.1) p → ∃ M9, L_X10_product_4 rec (b + 54) (fun M3 => some ((), M3)) (fun M4 => some ((), M4)) (F + 1) M = (if prO (xbN A) L (blS (xbN A) L p) = -1 then some ((), M9) else xrk M9 (b + 54) 3 (xmb (F_X10_one rec M9 (b + 54)) (fun _ M11 => xrk M11 (b + 54) 3 (xmb (m_X10_notes M11 (b + 54) (prO (xbN A) L (blS (xbN A) L p)) 0) (fun _ M13 => L_X10_product_4 rec (b + 54) (fun M3 => some ((), M3)) (fun M4 => some ((), M4)) F M13))))) ∧ fr (sTm b) nz 0 0 M M9 ∧ tAt b M9 A L k (pre ++ t.1) (if prO (xbN A) L (blS (xbN A) L p) = -1 then blS (xbN A) L p else blS (xbN A) L p + 1) := by
    intro F p M t h
    have sh := h.1.1.1
    have h49 := h.1.ok.2.1
    obtain ⟨M2, e2, f2, a2⟩ := t_takesS (c := 42) h (by omega)
    have e2' : m_X10_takesSign M (b + 54) 42 = some (if blS (xbN A) L p < L ∧ xbN A (blS (xbN A) L p) = 42 then 1 else 0, M2) := e2
    have s2 := a2.1.1.1
    rw [L_X10_product_4, xgI_u (by rw [kd54 sh]; rfl), if_pos h49, xrk_u (kd54 sh), e2', xmb_v, jn_u]
    unfold prO
    by_cases c1 : blS (xbN A) L p < L ∧ xbN A (blS (xbN A) L p) = 42
    · rw [if_pos c1] at a2
      refine ⟨M2, ?_, f2, ?_⟩
      · rw [if_pos c1, if_pos c1, if_neg (show ¬ (1 : Int32) = 0 by decide), if_neg (show ¬ (4 : Int32) = -1 by decide)]
        dsimp only
        rw [if_neg (show ¬ (4 : Int32) = -1 by decide)]
      · rw [if_pos c1, if_neg (show ¬ (4 : Int32) = -1 by decide)]; exact a2
    · rw [if_neg c1] at a2
      obtain ⟨M3, e3, f3, a3⟩ := t_takesS (c := 47) a2 (by omega)
      rw [blS_bl] at e3 a3
      have e3' : m_X10_takesSign M2 (b + 54) 47 = some (if blS (xbN A) L p < L ∧ xbN A (blS (xbN A) L p) = 47 then 1 else 0, M3) := e3
      have s3 := a3.1.1.1
      rw [if_neg c1, if_neg c1, if_pos rfl, xrk_u (kd54 s2), e3', xmb_v]
      by_cases c2 : blS (xbN A) L p < L ∧ xbN A (blS (xbN A) L p) = 47
      · rw [if_pos c2] at a3
        refine ⟨M3, ?_, f2.t0 f3, ?_⟩
        · rw [if_pos c2, if_pos c2, if_neg (show ¬ (1 : Int32) = 0 by decide), if_neg (show ¬ (5 : Int32) = -1 by decide)]
          dsimp only
          rw [if_neg (show ¬ (5 : Int32) = -1 by decide)]
        · rw [if_pos c2, if_neg (show ¬ (5 : Int32) = -1 by decide)]; exact a3
      · rw [if_neg c2] at a3
        obtain ⟨M4, e4, f4, a4⟩ := t_takesS (c := 37) a3 (by omega)
        rw [blS_bl] at e4 a4
        have e4' : m_X10_takesSign M3 (b + 54) 37 = some (if blS (xbN A) L p < L ∧ xbN A (blS (xbN A) L p) = 37 then 1 else 0, M4) := e4
        rw [if_neg c2, if_neg c2, if_pos rfl, xrk_u (kd54 s3), e4', xmb_v]
        refine ⟨M4, ?_, (f2.t0 f3).t0 f4, ?_⟩
        · by_cases c3 : blS (xbN A) L p < L ∧ xbN A (blS (xbN A) L p) = 37
          · rw [if_pos c3, if_pos c3, if_neg (show ¬ (1 : Int32) = 0 by decide), if_neg (show ¬ (6 : Int32) = -1 by decide)]
            dsimp only
            rw [if_neg (show ¬ (6 : Int32) = -1 by decide)]
          · rw [if_neg c3, if_neg c3, if_pos rfl, if_pos rfl]
            dsimp only
            rw [if_pos rfl]
        · by_cases c3 : blS (xbN A) L p < L ∧ xbN A (blS (xbN A) L p) = 37
          · rw [if_pos c3] at a4
            rw [if_pos c3, if_neg (show ¬ (6 : Int32) = -1 by decide)]; exact a4
          · rw [if_neg c3] at a4
            rw [if_neg c3, if_pos rfl]; exact a4
  intro n
  induction n with
  | zero =>
    intro F p M t h1 h2 h
    obtain ⟨F, rfl⟩ : ∃ F', F = F' + 1 := ⟨F - 1, by omega⟩
    obtain ⟨M9, e9, f9, a9⟩ := three F p M t h
    have c : prO (xbN A) L (blS (xbN A) L p) = -1 := by
      by_cases c : prO (xbN A) L (blS (xbN A) L p) = -1
      · exact c
      · have := (prO_lt c).1
        have := (blS_le (X := xbN A) (L := L) _ p rfl).1
        omega
    rw [if_pos c] at e9 a9
    rw [e9, prF]
    exact ⟨M9, rfl, f9, a9⟩
  | succ n ih =>
    intro F p M t h1 h2 h
    obtain ⟨F, rfl⟩ : ∃ F', F = F' + 1 := ⟨F - 1, by omega⟩
    obtain ⟨M9, e9, f9, a9⟩ := three F p M t h
    have hb := (blS_le (X := xbN A) (L := L) _ p rfl).1
    rw [prF]
    by_cases c : prO (xbN A) L (blS (xbN A) L p) = -1
    · rw [if_pos c] at e9 a9 ⊢
      rw [e9]
      exact ⟨M9, rfl, f9, a9⟩
    · rw [if_neg c] at e9 a9 ⊢
      have s9 := a9.1.1.1
      have hlt := (prO_lt c).1
      obtain ⟨M10, e10, f10, a10⟩ := t_one hr a9
      have a10' : tQx b M10 A L k (pre ++ t.1) (unG (xbN A) L recS k (blS (xbN A) L p + 1)) := a10
      have s10 := (tQ.st a10').1.1
      obtain ⟨F, rfl⟩ : ∃ F', F = F' + 1 := ⟨F - 1, by omega⟩
      rw [e9, xrk_u (kd54 s9), e10, xmb_v, xrk_u (kd54 s10)]
      cases hu : unG (xbN A) L recS k (blS (xbN A) L p + 1) with
      | inr e =>
        rw [hu] at a10'
        have a10b : tSt b M10 A L (.inr e) := a10'
        obtain ⟨M11, e11, f11, a11⟩ := q_notes (b := b) (M := M10) (A := A) (L := L) (k := k) (pre := pre) (r := .inr e) (o := prO (xbN A) L (blS (xbN A) L p)) (v := 0) a10b (fun p z => by cases z)
        rw [e11, xmb_v, t_prB (show tSt b M11 A L (.inr e) from a11)]
        exact ⟨M11, rfl, (f9.t0 f10).t0 f11, a11⟩
      | inl u =>
        rw [hu] at a10'
        have a10b : tAt b M10 A L k (pre ++ t.1 ++ u.1.1) u.2 := a10'
        have hl : (pre ++ t.1 ++ u.1.1).length + 1 ≤ u.2 := by
          have := (unG_ok (X := xbN A) (L := L) (k := k) (p := blS (xbN A) L p + 1) (rec := recS) (by omega) hr.2.2 u.1 u.2 hu).1
          have h9 : (pre ++ t.1).length ≤ p := h.2.2.2.2.2
          rw [List.length_append]
          omega
        obtain ⟨M11, e11, f11, a11⟩ := q_notes (o := prO (xbN A) L (blS (xbN A) L p)) (v := 0) (show tQ b M10 A L k (pre ++ t.1 ++ u.1.1) (.inl u.2) from a10b) (fun p z => by cases z; exact hl)
        have a11' : tAt b M11 A L k (pre ++ (opT (prO (xbN A) L (blS (xbN A) L p)) t u.1).1) u.2 := by
          have a11b : tAt b M11 A L k (pre ++ t.1 ++ u.1.1 ++ [(prO (xbN A) L (blS (xbN A) L p), 0)]) u.2 := a11
          rw [List.append_assoc, List.append_assoc, ← List.append_assoc t.1] at a11b
          exact a11b
        have hup : blS (xbN A) L p + 1 ≤ u.2 := by
          have := (unG_ok (X := xbN A) (L := L) (k := k) (p := blS (xbN A) L p + 1) (rec := recS) (by omega) hr.2.2 u.1 u.2 hu).1
          omega
        rw [e11, xmb_v]
        exact tZ_pre ((f9.t0 f10).t0 f11) (ih (F + 1) u.2 M11 _ (by omega) (by omega) a11')
end LAW
