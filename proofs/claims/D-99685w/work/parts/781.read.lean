/-! A LAW read: the component's words, units, whole -/
section LAW
variable {b : Nat} {w : Nat → Nat} {M : dwSt} {A : dvA} {ρ : Type} {N L : Nat}
theorem frS_c {N s : Nat} (hk : dwK M s = (0, 28)) : frT N (sPs s) M := fun a k _ z => Or.inr (by have := z.1; rw [this]; exact hk)
/-- least, most -/
theorem c_unT {recS : Nat → rsL} {rec : dwSt → Nat → dwR9 Nat} {k q s : Nat} {ws : List Nat} (hr : hRec b A N L k recS rec) (h : lw b M A N L k q) (hs : strO b M s ws) (hws : ws = kwLeast ∨ ws = kwMost) (hql : q + ws.length ≤ L) (hR : room M (5 * (L - q) + 1) (36 * (L - q) + 8)) : match (if k = 0 then (.inr (3, q) : rsL) else twG (xbN A) L recS (q + ws.length) (if ws = kwLeast then 7 else 8)) with
    | .inl u => ∃ M2 a, F_X16_two rec M N s = some (.inl a, M2) ∧ fr (sLc N) nz (5 * (u.2 - q) - 4) (36 * (u.2 - q) - 34) M M2 ∧ lw b M2 A N L k u.2 ∧ (q + 4 ≤ u.2 ∧ u.2 ≤ L) ∧ ∀ f, tmr N M2 f u.1.2.2 a (u.1.2.1 f)
    | .inr e => bdC N (5 * (L - q) + 1) (36 * (L - q) + 8) M e (F_X16_two rec M N s) := by
  have hlen : 4 ≤ ws.length ∧ ws.length ≤ 10 := by rcases hws with rfl | rfl <;> exact ⟨by decide, by decide⟩
  have hsm : ∀ c ∈ ws, smN c := by rcases hws with rfl | rfl <;> decide +kernel
  have hk := h.1.2.1.2.2.2.1
  have hn0 := h.1.2.1.1
  obtain ⟨vs, ⟨ks, rs⟩, rs2⟩ := id hs
  obtain ⟨o1, o2⟩ := lw_opens (d := ws.length) h hql (hR.le (by omega) (by omega))
  unfold F_X16_two
  rw [xrk_u ks, c_slen hs, xob_v, xrk_u hk]
  cases k with
  | zero =>
    rw [if_pos rfl]
    exact (bdC.th (o1 rfl)).le (by omega) (by omega)
  | succ k =>
    rw [if_neg (by omega)]
    obtain ⟨M2, e2, f2, l2⟩ := o2 k rfl
    have hk2 := l2.1.2.1.2.2.2.1
    have hR2 : room M2 (5 * (L - q) + 1) (36 * (L - q) + 8) := (hR.le (n' := 0 + (5 * (L - q) + 1)) (u' := 0 + (36 * (L - q) + 8)) (by omega) (by omega)).fr f2
    have q2 := cA_need (c := 91) (N := N) l2.1 (by omega) (by omega) (Nat.le_refl N) (hR2.le (by omega) (by omega))
    have q2' : ndC b A N 8 L N M2 (sgS (xbN A) L 91 (q + ws.length)) (m_X11_need M2 N 91) () := q2
    rw [e2, xth_v, xrk_u hk2]
    have bad : ∀ {S Z : Nat → Nat → Prop} {n' u' n1 u1 : Nat} {M1 : dwSt} {e : Nat × Nat} {z : dwR9 Nat}, fr S Z n' u' M M1 → (∀ a k, S a k → N ≤ a) → (∀ a k, Z a k → N ≤ a) → bdC N n1 u1 M1 e z → n' + n1 ≤ 5 * (L - q) + 1 → u' + u1 ≤ 36 * (L - q) + 8 → twG (xbN A) L recS (q + ws.length) (if ws = kwLeast then 7 else 8) = .inr e → (match twG (xbN A) L recS (q + ws.length) (if ws = kwLeast then 7 else 8) with
      | .inl u => ∃ M2 a, z = some (.inl a, M2) ∧ fr (sLc N) nz (5 * (u.2 - q) - 4) (36 * (u.2 - q) - 34) M M2 ∧ lw b M2 A N L (k + 1) u.2 ∧ (q + 4 ≤ u.2 ∧ u.2 ≤ L) ∧ ∀ f, tmr N M2 f u.1.2.2 a (u.1.2.1 f)
      | .inr e => bdC N (5 * (L - q) + 1) (36 * (L - q) + 8) M e z) := fun f hS hZ hb hn hu he => by
      rw [he]; exact (bdC.pre hb f hS hZ).le hn hu
    cases s1 : sgS (xbN A) L 91 (q + ws.length) with
    | inr e =>
      rw [s1] at q2'
      refine bad f2 sLc_N nz_N (bdC.th (show bdC N 1 8 M2 e _ from q2')) (by omega) (by omega) ?_
      unfold twG twB twA; rw [s1]; rfl
    | inl p1 =>
      rw [s1] at q2'
      obtain ⟨M3, e3, f3, c3⟩ := q2'
      have l3 := lw_po l2 f3 c3
      have hk3 := l3.1.2.1.2.2.2.1
      obtain ⟨g1, g1'⟩ := sgS_le s1
      have F3 := f2.t0 (f3.mono sPo_c (fun _ _ z => z) (Nat.le_refl _) (Nat.le_refl _))
      have hR3 : lroom M3 L p1 := by
        unfold lroom
        exact (hR.le (n' := 0 + (5 * (L - p1) + 5)) (u' := 0 + (36 * (L - p1) + 42)) (by omega) (by omega)).fr F3
      have r1 := hr k p1 M3 rfl g1' l3 hR3
      have hA : twA (xbN A) L recS (q + ws.length) = recS p1 := by unfold twA; rw [s1]; rfl
      rw [e3, xth_v, xrk_u hk3]
      cases x1 : recS p1 with
      | inr e =>
        rw [x1] at r1
        refine bad F3 sLc_N nz_N (bdC.th (show bdC N (5 * (L - p1) + 5) (36 * (L - p1) + 42) M3 e _ from r1)) (by omega) (by omega) ?_
        unfold twG twB; rw [hA, x1]; rfl
      | inl u1 =>
        rw [x1] at r1 hA
        obtain ⟨M4, a1, e4, f4, l4, ⟨p4, p4'⟩, t4⟩ := r1
        have hk4 := l4.1.2.1.2.2.2.1
        have F4 := F3.trans f4
        have hR4 : lroom M4 L u1.2 := by
          unfold lroom
          exact (hR.le (n' := (0 + 5 * (u1.2 - p1)) + (5 * (L - u1.2) + 5)) (u' := (0 + 36 * (u1.2 - p1)) + (36 * (L - u1.2) + 42)) (by omega) (by omega)).fr F4
        have hR4' := hR4
        unfold lroom at hR4'
        have q4 := cA_need (c := 44) (N := N) l4.1 (by omega) (by omega) (Nat.le_refl N) (hR4'.le (by omega) (by omega))
        have q4' : ndC b A N 8 L N M4 (sgS (xbN A) L 44 u1.2) (m_X11_need M4 N 44) () := q4
        have hn4 := F4.n
        rw [e4, xth_v, xrk_u hk4]
        cases s2 : sgS (xbN A) L 44 u1.2 with
        | inr e =>
          rw [s2] at q4'
          refine bad F4 sLc_N nz_N (bdC.th (show bdC N 1 8 M4 e _ from q4')) (by omega) (by omega) ?_
          unfold twG twB; rw [hA]
          show mapL _ (sgR _ _ _ (poL (bndL (sgS (xbN A) L 44 u1.2) recS))) = _
          rw [s2]; rfl
        | inl p5 =>
          rw [s2] at q4'
          obtain ⟨M5, e5, f5, c5⟩ := q4'
          have l5 := lw_po l4 f5 c5
          have hk5 := l5.1.2.1.2.2.2.1
          obtain ⟨g5, g5'⟩ := sgS_le s2
          have F5 := F4.t0 (f5.mono sPo_c (fun _ _ z => z) (Nat.le_refl _) (Nat.le_refl _))
          have hR5 : lroom M5 L p5 := by
            unfold lroom
            exact (hR.le (n' := (0 + 5 * (u1.2 - p1)) + (5 * (L - p5) + 5)) (u' := (0 + 36 * (u1.2 - p1)) + (36 * (L - p5) + 42)) (by omega) (by omega)).fr F5
          have r2 := hr k p5 M5 rfl g5' l5 hR5
          have hB : twB (xbN A) L recS (q + ws.length) = recS p5 := by
            unfold twB; rw [hA]
            show bndL (sgS (xbN A) L 44 u1.2) recS = _
            rw [s2]; rfl
          rw [e5, xth_v, xrk_u hk5]
          cases x2 : recS p5 with
          | inr e =>
            rw [x2] at r2
            refine bad F5 sLc_N nz_N (bdC.th (show bdC N (5 * (L - p5) + 5) (36 * (L - p5) + 42) M5 e _ from r2)) (by omega) (by omega) ?_
            unfold twG; rw [hB, x2]; rfl
          | inl u2 =>
            rw [x2] at r2 hB
            obtain ⟨M6, a2, e6, f6, l6, ⟨p6, p6'⟩, t6⟩ := r2
            have hk6 := l6.1.2.1.2.2.2.1
            have F6 := F5.trans f6
            have hR6 : lroom M6 L u2.2 := by
              unfold lroom
              exact (hR.le (n' := (0 + 5 * (u1.2 - p1) + 5 * (u2.2 - p5)) + (5 * (L - u2.2) + 5)) (u' := (0 + 36 * (u1.2 - p1) + 36 * (u2.2 - p5)) + (36 * (L - u2.2) + 42)) (by omega) (by omega)).fr F6
            have hR6' := hR6
            unfold lroom at hR6'
            have q6 := cA_need (c := 93) (N := N) l6.1 (by omega) (by omega) (Nat.le_refl N) (hR6'.le (by omega) (by omega))
            have q6' : ndC b A N 8 L N M6 (sgS (xbN A) L 93 u2.2) (m_X11_need M6 N 93) () := q6
            have hn6 := F6.n
            have hG : twG (xbN A) L recS (q + ws.length) (if ws = kwLeast then 7 else 8) = mapL (opT (if ws = kwLeast then 7 else 8) u1.1 u2.1) (sgS (xbN A) L 93 u2.2) := by
              unfold twG; rw [hA, hB]; rfl
            rw [e6, xth_v, xrk_u hk6]
            cases s3 : sgS (xbN A) L 93 u2.2 with
            | inr e =>
              rw [s3] at q6'
              refine bad F6 sLc_N nz_N (bdC.th (show bdC N 1 8 M6 e _ from q6')) (by omega) (by omega) ?_
              rw [hG, s3]; rfl
            | inl p7 =>
              rw [s3] at q6'
              obtain ⟨M7, e7, f7, c7⟩ := q6'
              have l7 := lw_po l6 f7 c7
              obtain ⟨g7, g7'⟩ := sgS_le s3
              have F7 := F6.t0 (f7.mono sPo_c (fun _ _ z => z) (Nat.le_refl _) (Nat.le_refl _))
              obtain ⟨M8, e8, f8, l8, n8⟩ := lw_close l7 (k := k + 1) rfl h.2.2.1 (fun M15 => xrk M15 s 28 (xob (m_J9_equals M15 s (dwX M15 18)) (fun v16 => if v16 = 0 then xnew M15 16 (fun o17 M18 => xmb (m_X18_init M18 o17 a1 a2) (fun _ M20 => (some (.inl o17, M20) : dwR9 Nat))) else xnew M15 15 (fun o21 M22 => xmb (m_X17_init M22 o21 a1 a2) (fun _ M24 => some (.inl o21, M24))))))
              have F8 := F7.t0 f8
              have s8 : strO b M8 s ws := hs.fr F8 (fun a j h1 h2 z => by
                rw [show a = N from z.1, hk] at h2
                rcases h2 with h2 | h2
                · exact absurd (congrArg Prod.snd h2) (show ¬ (8 : Nat) = 28 by omega)
                · exact absurd h2 (show ¬ (0 : Nat) = 2 by omega)) (fun _ z => z)
              have ks8 : dwK M8 s = (0, 28) := by obtain ⟨_, ⟨z, _⟩, _⟩ := s8; exact z
              have hn8 := F8.n
              have eq8 := c_eqs (k := 18) (cs := kwLeast) s8 (l8.2.2.2 (18, kwLeast) (by decide)) hlen.2 hsm (by decide) (by decide)
              have t1 : ∀ f, tmr N M8 f u1.1.2.2 a1 (u1.1.2.1 f) := fun f => tmr_fr f8 frT_c frT_z _ _ _ (tmr_fr f7 (fun a j _ z => Or.inl (Nat.le_of_eq z.1)) frT_z _ _ _ (tmr_fr f6 frT_c frT_z _ _ _ (tmr_fr f5 (fun a j _ z => Or.inl (Nat.le_of_eq z.1)) frT_z _ _ _ (t4 f))))
              have t2 : ∀ f, tmr N M8 f u2.1.2.2 a2 (u2.1.2.1 f) := fun f => tmr_fr f8 frT_c frT_z _ _ _ (tmr_fr f7 (fun a j _ z => Or.inl (Nat.le_of_eq z.1)) frT_z _ _ _ (t6 f))
              have hR8 : room M8 1 2 := (hR.le (n' := (0 + 5 * (u1.2 - p1) + 5 * (u2.2 - p5)) + 1) (u' := (0 + 36 * (u1.2 - p1) + 36 * (u2.2 - p5)) + 2) (by omega) (by omega)).fr F8
              rw [e7, xth_v, e8, xrk_u ks8, eq8, xob_v, hG, s3]
              rcases hws with hw | hw
              · rw [if_pos hw, if_pos hw, if_neg (by decide)]
                obtain ⟨M9, e9, f9, t9⟩ := c_mkO (o := 7) (ci := 15) (ini := m_X17_init) (J := fun o21 M24 => (some (.inl o21, M24) : dwR9 Nat)) (fun _ _ _ _ => rfl) (by unfold opC; decide) (by omega) t1 t2 hR8
                refine ⟨M9, dwN M8, e9, (F8.trans (f9.mono (fun _ _ z => False.elim z) (fun _ _ z => z) (Nat.le_refl _) (Nat.le_refl _))).mono (fun _ _ z => z) (fun _ _ z => z) (show 0 + 5 * (u1.2 - p1) + 5 * (u2.2 - p5) + 1 ≤ 5 * (p7 - q) - 4 by omega) (show 0 + 36 * (u1.2 - p1) + 36 * (u2.2 - p5) + 2 ≤ 36 * (p7 - q) - 34 by omega), lw_z l8 f9, ⟨by show q + 4 ≤ p7; omega, g7'⟩, t9⟩
              · have hne : ¬ ws = kwLeast := by rw [hw]; decide
                rw [if_neg hne, if_neg hne, if_pos rfl]
                obtain ⟨M9, e9, f9, t9⟩ := c_mkO (o := 8) (ci := 16) (ini := m_X18_init) (J := fun o21 M24 => (some (.inl o21, M24) : dwR9 Nat)) (fun _ _ _ _ => rfl) (by unfold opC; decide) (by omega) t1 t2 hR8
                refine ⟨M9, dwN M8, e9, (F8.trans (f9.mono (fun _ _ z => False.elim z) (fun _ _ z => z) (Nat.le_refl _) (Nat.le_refl _))).mono (fun _ _ z => z) (fun _ _ z => z) (show 0 + 5 * (u1.2 - p1) + 5 * (u2.2 - p5) + 1 ≤ 5 * (p7 - q) - 4 by omega) (show 0 + 36 * (u1.2 - p1) + 36 * (u2.2 - p5) + 2 ≤ 36 * (p7 - q) - 34 by omega), lw_z l8 f9, ⟨by show q + 4 ≤ p7; omega, g7'⟩, t9⟩
/-- a known fact -/
theorem c_fact {k q s j : Nat} {ws : List Nat} (h : lw b M A N L k q) (hs : strO b M s ws) (hj : j < 10) (hql : q + ws.length ≤ L) (hR : room M 1 1) : ∃ M2 a, m_X16_fact M N s (Int32.ofNat j) = some (a, M2) ∧ fr (sLc N) nz 1 1 M M2 ∧ lw b M2 A N L k (q + ws.length) ∧ ∀ f, tmr N M2 f (faT j).2.2 a ((faT j).2.1 f) := by
  have hk := h.1.2.1.2.2.2.1
  have hN := h.1.2.1.1
  have hb := h.1.2.1.2.1
  obtain ⟨vs, ⟨ks, rs⟩, rs2⟩ := id hs
  have f1 : fr (sPo N) nz 0 0 M (dwPI M N 92 (Int32.ofNat (q + ws.length))) := (fr.refl M).pI _ (Or.inl ⟨rfl, rfl⟩)
  have c1 := h.1.to f1 (fun a k z => ⟨z.1, by have := z.2; omega⟩) di_eq hql
  have l1 := lw_po h f1 c1
  unfold m_X16_fact
  rw [xgI_u (by rw [hk]; rfl), xrk_u ks, c_slen hs, xob_v, h.1.2.2.1, i_add, xpI_u (by rw [hk]; rfl)]
  have hR1 : room (dwPI M N 92 (Int32.ofNat (q + ws.length))) 1 1 := hR
  have n1 : dwN (dwPI M N 92 (Int32.ofNat (q + ws.length))) = dwN M := rfl
  generalize dwPI M N 92 (Int32.ofNat (q + ws.length)) = M1 at *
  have k2 : dwK (dwMk M1 (0, 12) 1) (dwN M1) = (0, 12) := by rw [dk_Mk, if_pos rfl]
  have f2 : fr (atN (dwN M1)) nz 1 1 M1 (dwPI (dwMk M1 (0, 12) 1) (dwN M1) 114 (Int32.ofNat j)) := ((fr.refl (S := atN (dwN M1)) (Z := nz) M1).mk (0, 12) 1).pI (a := dwN M1) (k := 114) _ (Or.inl (Nat.le_refl (dwN M1)))
  have f2' := f2.old (S' := nz) (Z' := nz) (fun a k ha z => by have : dwN M1 ≤ a := z; omega) (fun _ _ _ z => z)
  have e3 : m_X6_init (dwMk M1 (0, 12) 1) (dwN M1) (Int32.ofNat j) = some ((), dwPI (dwMk M1 (0, 12) 1) (dwN M1) 114 (Int32.ofNat j)) := by
    unfold m_X6_init m_X3_init
    rw [xob_v, xpI_u (by rw [k2]; rfl)]
  rw [xnew_u (n := 1) (by decide) hR1, e3, xmb_v]
  refine ⟨_, dwN M1, rfl, ((f1.mono sPo_c (fun _ _ z => z) (Nat.le_refl _) (Nat.le_refl _)).trans (f2'.mono (fun _ _ z => False.elim z) (fun _ _ z => z) (Nat.le_refl _) (Nat.le_refl _))).mono (fun _ _ z => z) (fun _ _ z => z) (by omega) (by omega), lw_z l1 f2', fun f => ⟨⟨by omega, ?_⟩, Or.inr (Or.inl ⟨k2, j, hj, di_eq, rfl⟩)⟩⟩
  rw [dn_PI, dn_Mk]; omega
theorem c_unWd {recS : Nat → rsL} {rec : dwSt → Nat → dwR9 Nat} {k q : Nat} (hr : hRec b A N L k recS rec) (h : lw b M A N L k q) (hbl : blS (xbN A) L q = q) (hR : lroom M L q) : cLz b A N L k q M (unW (xbN A) L recS k q) (xrk M N 8 (xmb (m_X11_word M N) (fun v3 M4 => xrk M4 v3 28 (xmb (m_J9_hashCode M4 v3) (fun v5 M6 => jn (fun (y7 : Int32) => if y7 = 0 then xrk M6 N 8 (xmb (m_X16_fact M6 N v3 0) (fun v8 M9 => some (.inl v8, M9))) else if y7 = 1 then xrk M6 N 8 (xmb (m_X16_fact M6 N v3 1) (fun v10 M11 => some (.inl v10, M11))) else if y7 = 2 then xrk M6 N 8 (xmb (m_X16_fact M6 N v3 2) (fun v12 M13 => some (.inl v12, M13))) else if y7 = 3 then xrk M6 N 8 (xmb (m_X16_fact M6 N v3 3) (fun v14 M15 => some (.inl v14, M15))) else if y7 = 4 then xrk M6 N 8 (xmb (m_X16_fact M6 N v3 4) (fun v16 M17 => some (.inl v16, M17))) else if y7 = 5 then xrk M6 N 8 (xmb (m_X16_fact M6 N v3 5) (fun v18 M19 => some (.inl v18, M19))) else if y7 = 6 then xrk M6 N 8 (xmb (m_X16_fact M6 N v3 6) (fun v20 M1 => some (.inl v20, M1))) else if y7 = 7 then xrk M6 N 8 (xmb (m_X16_fact M6 N v3 7) (fun v22 M3 => some (.inl v22, M3))) else if y7 = 8 then xrk M6 N 8 (xmb (m_X16_fact M6 N v3 8) (fun v24 M5 => some (.inl v24, M5))) else if y7 = 9 then xrk M6 N 8 (xmb (m_X16_fact M6 N v3 9) (fun v26 M7 => some (.inl v26, M7))) else if y7 = 10 then xrk M6 N 8 (xth (F_X16_two rec M6 N v3) (fun v28 M9 => some (.inl v28, M9)) (fun cl q M => some (.inr (cl, q), M))) else if y7 = 11 then xrk M6 N 8 (xth (F_X16_two rec M6 N v3) (fun v30 M31 => some (.inl v30, M31)) (fun cl q M => some (.inr (cl, q), M))) else xrk M6 N 8 (xmb (m_X11_wrong M6 N) (fun v32 M33 => xrk0 M33 v32 5 ((fun cl q M => some (.inr (cl, q), M)) 0 v32 M33)))) (fun j371 => if v5 = (-991716523) then xrk M6 v3 28 (xob (m_J9_equals M6 v3 (dwX M6 17)) (fun v34 => if v34 = 0 then j371 (-1) else j371 9)) else if v5 = (-891980137) then xrk M6 v3 28 (xob (m_J9_equals M6 v3 (dwX M6 8)) (fun v35 => if v35 = 0 then j371 (-1) else j371 0)) else if v5 = (-874698306) then xrk M6 v3 28 (xob (m_J9_equals M6 v3 (dwX M6 15)) (fun v36 => if v36 = 0 then j371 (-1) else j371 7)) else if v5 = 99228 then xrk M6 v3 28 (xob (m_J9_equals M6 v3 (dwX M6 16)) (fun v37 => if v37 = 0 then j371 (-1) else j371 8)) else if v5 = 3357571 then xrk M6 v3 28 (xob (m_J9_equals M6 v3 (dwX M6 19)) (fun v38 => if v38 = 0 then j371 (-1) else j371 11)) else if v5 = 3377192 then xrk M6 v3 28 (xob (m_J9_equals M6 v3 (dwX M6 14)) (fun v39 => if v39 = 0 then j371 (-1) else j371 6)) else if v5 = 3565875 then xrk M6 v3 28 (xob (m_J9_equals M6 v3 (dwX M6 11)) (fun v40 => if v40 = 0 then j371 (-1) else j371 3)) else if v5 = 3655444 then xrk M6 v3 28 (xob (m_J9_equals M6 v3 (dwX M6 10)) (fun v41 => if v41 = 0 then j371 (-1) else j371 2)) else if v5 = 93014996 then xrk M6 v3 28 (xob (m_J9_equals M6 v3 (dwX M6 9)) (fun v42 => if v42 = 0 then j371 (-1) else j371 1)) else if v5 = 98622975 then xrk M6 v3 28 (xob (m_J9_equals M6 v3 (dwX M6 13)) (fun v43 => if v43 = 0 then j371 (-1) else j371 5)) else if v5 = 102846057 then xrk M6 v3 28 (xob (m_J9_equals M6 v3 (dwX M6 18)) (fun v44 => if v44 = 0 then j371 (-1) else j371 10)) else if v5 = 1666223154 then xrk M6 v3 28 (xob (m_J9_equals M6 v3 (dwX M6 12)) (fun v45 => if v45 = 0 then j371 (-1) else j371 4)) else j371 (-1))))))) := by
  have hR' := hR
  unfold lroom at hR'
  have hk := h.1.2.1.2.2.2.1
  have hN := h.1.2.1.1
  have hqL := h.1.2.2.2.1
  obtain ⟨M2, s, e2, f2, c2, s2, hNs⟩ := cA_word h.1 (hR'.le (by omega) (by omega))
  rw [hbl] at c2 s2
  have l2 := lw_po h f2 c2
  have hwl := wdS_le (X := xbN A) (L := L) _ q rfl hqL
  have hw : ((wdS (xbN A) L q).take 10).length ≤ 10 := List.length_take_le _ _
  have hsm : ∀ c ∈ (wdS (xbN A) L q).take 10, smN c := fun c hc => wdS_sm (X := xbN A) (L := L) _ q rfl c (List.mem_of_mem_take hc)
  have hlen : ∀ v, swv ((wdS (xbN A) L q).take 10) swUnit = v → ¬ v = -1 → (wdS (xbN A) L q).length = ((wdS (xbN A) L q).take 10).length := fun v e hv => by
    have := (swUnit_len e hv).2.1
    rw [List.length_take] at this ⊢
    omega
  have hVd : unV (xbN A) L q = swv ((wdS (xbN A) L q).take 10) swUnit := rfl
  generalize hws : (wdS (xbN A) L q).take 10 = ws at *
  obtain ⟨vs, ⟨ks, rs⟩, rs2⟩ := id s2
  obtain ⟨M3, e3, f3, s3⟩ := c_hash s2 hw hsm
  have hk2 := l2.1.2.1.2.2.2.1
  have hn2 := f2.n
  have sne : s ≠ N := kne ks hk2 (by omega)
  have c3 := l2.1.fr f3 (fun a j z => by have := z.1; have := rs2.2.2.2.1; exact ⟨by omega, fun e => by omega⟩) (fun _ _ z => False.elim z)
  have l3 := lw_to l2 f3 (fun a j _ z => by have := z.1; have := rs2.2.2.2.1; exact ⟨by omega, fun e => by omega⟩) (fun _ _ _ z => z) c3
  have hk3 := l3.1.2.1.2.2.2.1
  have ks3 : dwK M3 s = (0, 28) := (f3.k rs2.2.2.2.2.1).trans ks
  have F3 : fr (sLc N) nz 4 34 M M3 := ((f2.mono (S' := fun a k => sLc N a k ∨ s ≤ a) (Z' := nz) (fun a j z => Or.inl (sPo_c a j z)) (fun _ _ z => z) (Nat.le_refl _) (Nat.le_refl _)).t0 (f3.mono (fun a j z => Or.inr (Nat.le_of_eq z.1.symm)) (fun _ _ z => z) (Nat.le_refl _) (Nat.le_refl _))).old (fun a k ha z => z.resolve_right (by omega)) (fun _ _ _ z => z)
  have hR3 : room M3 (5 * (L - q) + 1) (36 * (L - q) + 8) := (hR'.le (n' := 4 + (5 * (L - q) + 1)) (u' := 34 + (36 * (L - q) + 8)) (by omega) (by omega)).fr F3
  have hn3 := F3.n
  rw [xrk_u hk, e2, xmb_v, xrk_u ks, e3, xmb_v]
  refine jn_s (E := cLz b A N L k q M (unW (xbN A) L recS k q)) (Q := fun J => cLz b A N L k q M (unW (xbN A) L recS k q) (J (swv ws swUnit))) ?_ ?_
  · unfold unW
    rw [hVd]
    by_cases h1 : swv ws swUnit = -1
    · rw [if_pos h1, h1]
      dsimp only
      iterate 12 rw [if_neg (by decide)]
      rw [xrk_u hk3]
      exact cLz_bad F3 sLc_N nz_N (c_badw (α := Nat) (N := N) (by omega) l3.1.2.1 l3.1.2.2.1 (hR3.le (by omega) (by omega))) (by omega) (by omega)
    · rw [if_neg h1]
      obtain ⟨q1, q2, q3, q10, q11⟩ := swUnit_len (ws := ws) rfl h1
      have hl := hlen _ rfl h1
      rw [hl]
      have two : ws = kwLeast ∨ ws = kwMost → cLz b A N L k q M (if k = 0 then .inr (3, q) else twG (xbN A) L recS (q + ws.length) (if ws = kwLeast then 7 else 8)) (xrk M3 N 8 (xth (F_X16_two rec M3 N s) (fun v28 M29 => some (.inl v28, M29)) (KX Nat))) := fun hwm => by
        have r := c_unT hr l3 s3 hwm (by omega) hR3
        rw [xrk_u hk3]
        generalize (if k = 0 then (.inr (3, q) : rsL) else twG (xbN A) L recS (q + ws.length) (if ws = kwLeast then 7 else 8)) = R at *
        cases R with
        | inl u =>
          obtain ⟨M4, a, e4, f4, l4, ⟨p4, p4'⟩, t4⟩ := r
          rw [e4, xth_v]
          exact ⟨M4, a, rfl, (F3.trans f4).mono (fun _ _ z => z) (fun _ _ z => z) (by omega) (by omega), l4, ⟨by omega, p4'⟩, t4⟩
        | inr e => exact cLz_bad F3 sLc_N nz_N (bdC.th r) (by omega) (by omega)
      have fac : ∀ j, j < 10 → cLz b A N L k q M (.inl (faT j, q + ws.length)) (xrk M3 N 8 (xmb (m_X16_fact M3 N s (Int32.ofNat j)) (fun v8 M9 => some (.inl v8, M9)))) := fun j hj => by
        obtain ⟨M4, a, e4, f4, l4, t4⟩ := c_fact l3 s3 hj (by omega) (hR3.le (by omega) (by omega))
        rw [xrk_u hk3, e4, xmb_v]
        exact ⟨M4, a, rfl, (F3.trans f4).mono (fun _ _ z => z) (fun _ _ z => z) (show 4 + 1 ≤ 5 * (q + ws.length - q) by omega) (show 34 + 1 ≤ 36 * (q + ws.length - q) by omega), l4, ⟨by show q ≤ q + ws.length; omega, by show q + ws.length ≤ L; omega⟩, t4⟩
      rcases q3 with q3 | q3 | ⟨j, hj, q3⟩
      · have hw1 := q10 q3
        have := two (Or.inl hw1)
        rw [if_pos hw1] at this
        rw [q3, if_pos (Or.inl rfl), if_pos rfl]
        exact this
      · have hw1 := q11 q3
        have := two (Or.inr hw1)
        rw [if_neg (show ¬ ws = kwLeast by rw [hw1]; decide)] at this
        rw [q3, if_pos (Or.inr rfl), if_neg (show ¬ (11 : Int32) = 10 by decide)]
        exact this
      · rw [q3, if_neg (by
          rcases (by omega : j = 0 ∨ j = 1 ∨ j = 2 ∨ j = 3 ∨ j = 4 ∨ j = 5 ∨ j = 6 ∨ j = 7 ∨ j = 8 ∨ j = 9) with rfl | rfl | rfl | rfl | rfl | rfl | rfl | rfl | rfl | rfl <;> decide), i_nat (by omega)]
        have fj := fac j hj
        rcases (by omega : j = 0 ∨ j = 1 ∨ j = 2 ∨ j = 3 ∨ j = 4 ∨ j = 5 ∨ j = 6 ∨ j = 7 ∨ j = 8 ∨ j = 9) with rfl | rfl | rfl | rfl | rfl | rfl | rfl | rfl | rfl | rfl <;> exact fj
  · intro K hK
    show cLz b A N L k q M (unW (xbN A) L recS k q) (swc M3 s (hsF 0 ws) K swUnit)
    rw [sw_eq l3.2.2.2 s3 hw hsm swUnit swUnit_ok]
    exact hK
theorem c_unit {recS : Nat → rsL} {rec : dwSt → Nat → dwR9 Nat} {k p : Nat} (hr : hRec b A N L k recS rec) (h : lw b M A N L k p) (hR : lroom M L p) : cLz b A N L k p M (unG (xbN A) L recS k p) (F_X16_unit rec M N) := by
  have hk := h.1.2.1.2.2.2.1
  have hN := h.1.2.1.1
  have hpL := h.1.2.2.2.1
  obtain ⟨M2, e2, f2, l2⟩ := lw_sign h
  obtain ⟨g1, g2⟩ := blS_le (X := xbN A) (L := L) _ p rfl
  have g2 := g2 hpL
  have hbl := blS_bl (X := xbN A) (L := L) (p := p)
  have s40 := sgC_eq (X := xbN A) (L := L) (q := blS (xbN A) L p) (c := 40) (h.1.lt _) (by omega) (by omega)
  have s40' : (sgC (xbN A) L (blS (xbN A) L p) = 40) ↔ (blS (xbN A) L p < L ∧ xbN A (blS (xbN A) L p) = 40) := s40
  have hv := h.1.lt (blS (xbN A) L p)
  have pull : ∀ (x : rsL) (z : dwR9 Nat), cLz b A N L k (blS (xbN A) L p) M2 x z → cLz b A N L k p M x z := by
    intro x z hz
    cases x with
    | inr e => exact cLz_bad f2 sPo_N nz_N hz (by omega) (by omega)
    | inl u =>
      obtain ⟨M3, a, e3, f3, l3, ⟨p3, p3'⟩, t3⟩ := hz
      exact ⟨M3, a, e3, ((f2.mono sPo_c (fun _ _ z => z) (Nat.le_refl _) (Nat.le_refl _)).trans f3).mono (fun _ _ z => z) (fun _ _ z => z) (by omega) (by omega), l3, ⟨by omega, p3'⟩, t3⟩
  unfold F_X16_unit unG
  generalize blS (xbN A) L p = q at *
  have hR2 : lroom M2 L q := lroom_fr hR f2 ⟨g1, g2⟩ (by omega) (by omega)
  have hk2 := l2.1.2.1.2.2.2.1
  rw [xrk_u hk, e2, xmb_v]
  refine pull _ _ ?_
  by_cases c1 : q < L ∧ xbN A q = 40
  · rw [if_pos c1, if_pos (s40'.mpr c1), xrk_u hk2]
    exact c_unP hr l2 c1.1 hR2
  · rw [if_neg c1, if_neg (fun z => c1 (s40'.mp z)), jn_u]
    by_cases c2 : q < L ∧ dgN (xbN A q)
    · have es : sgC (xbN A) L q = Int32.ofNat (xbN A q) := by
        unfold sgC; rw [if_pos c2.1, b_dig c2.2.1 (by omega)]
      rw [if_pos c2, es, if_neg (show ¬ Int32.ofNat (xbN A q) < 48 by rw [show (48 : Int32) = Int32.ofNat 48 from rfl, i_lt (by omega) (by omega)]; omega), if_neg (show ¬ (57 : Int32) < Int32.ofNat (xbN A q) by rw [show (57 : Int32) = Int32.ofNat 57 from rfl, i_lt (by omega) (by omega)]; omega)]
      exact c_unD l2 hbl hR2
    · rw [if_neg c2]
      have go := c_unWd hr l2 hbl hR2
      by_cases c3 : sgC (xbN A) L q < 48
      · rw [if_pos c3]; exact go
      · have c4 : (57 : Int32) < sgC (xbN A) L q := by
          unfold sgC at *
          by_cases hlt : q < L
          · rw [if_pos hlt] at *
            have l1 := b_lt' _ (hv hlt) 48 (by omega)
            have l2' := b_gt' _ (hv hlt) 57 (by omega)
            have n1 : ¬ (xbN A q < 48 ∨ 128 ≤ xbN A q) := fun z => c3 (l1.mpr z)
            exact l2'.mpr (by have : ¬ (48 ≤ xbN A q ∧ xbN A q ≤ 57) := fun z => c2 ⟨hlt, z⟩; omega)
          · rw [if_neg hlt] at c3; exact absurd (show (0 : Int32) < 48 by decide) c3
        rw [if_neg c3, if_pos c4]; exact go
end LAW
