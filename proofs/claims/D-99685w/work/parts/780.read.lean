/-! A LAW read: the component's units -/
section LAW
variable {b : Nat} {w : Nat → Nat} {M : dwSt} {A : dvA} {ρ : Type} {N L : Nat}
/-- what is known of the recursion -/
def hRec (b : Nat) (A : dvA) (N L k : Nat) (recS : Nat → rsL) (rec : dwSt → Nat → dwR9 Nat) : Prop := ∀ k' p M, k = k' + 1 → p ≤ L → lw b M A N L k' p → lroom M L p → cLz b A N L k' p M (recS p) (rec M N)
theorem lroom_fr {S Z : Nat → Nat → Prop} {p p1 n u : Nat} {M1 : dwSt} (h : lroom M L p) (f : fr S Z n u M M1) (hp : p ≤ p1 ∧ p1 ≤ L) (hn : n ≤ 5 * (p1 - p)) (hu : u ≤ 36 * (p1 - p)) : lroom M1 L p1 := by
  unfold lroom at *
  exact (h.le (n' := n + (5 * (L - p1) + 5)) (u' := u + (36 * (L - p1) + 42)) (by omega) (by omega)).fr f
theorem lw_opens {k q d : Nat} (h : lw b M A N L k q) (hd : q + d ≤ L) (hR : room M 1 8) : (k = 0 → bdC N 1 8 M (3, q) (m_X11_opens M N (Int32.ofNat d))) ∧ (∀ k', k = k' + 1 → ∃ M2, m_X11_opens M N (Int32.ofNat d) = some (.inl (), M2) ∧ fr (sLc N) nz 0 0 M M2 ∧ lw b M2 A N L k' (q + d)) := by
  obtain ⟨h1, h2, h3, h4⟩ := id h
  obtain ⟨a1, a2⟩ := cA_opens (N := N) (d := d) h1 h2 (by omega) hd (Nat.le_refl N) hR
  refine ⟨fun e => a1 (by omega), fun k' e => ?_⟩
  obtain ⟨M2, e2, f2, c2, i94⟩ := a2 (by omega)
  have hN := shN h1.1.1
  refine ⟨M2, e2, f2.mono (fun a j z => ⟨z.1, by have := z.2; omega⟩) (fun _ _ z => z) (Nat.le_refl _) (Nat.le_refl _), c2, by rw [i94]; congr 1; omega, by omega, h4.fr (by omega) f2 (fun a k z => by have := z.1; have := h1.2.1.2.1; omega) (fun _ _ z => False.elim z)⟩
/-- one closes -/
theorem lw_close {k k' q : Nat} (h : lw b M A N L k' q) (hk : k = k' + 1) (hk6 : k ≤ 6) : ∀ {σ : Type} (K : dwSt → Option σ), ∃ M2, xgI M 94 N (fun v58 => xpI M 94 N (v58 - 1) K) = K M2 ∧ fr (sLc N) nz 0 0 M M2 ∧ lw b M2 A N L k q ∧ dwN M2 = dwN M := by
  intro σ K
  obtain ⟨h1, h2, h3, h4⟩ := h
  have hk0 := h1.2.1.2.2.2.1
  have hN := shN h1.1.1
  have hb := h1.2.1.2.1
  have f := frP M N 94 (Int32.ofNat (6 - k') - 1)
  have f2 : fr (fun a j => a = N ∧ j = 94) nz 0 0 M (dwPI M N 94 (Int32.ofNat (6 - k') - 1)) := (fr.refl M).pI _ (Or.inl ⟨rfl, rfl⟩)
  refine ⟨dwPI M N 94 (Int32.ofNat (6 - k') - 1), ?_, f2.mono (fun a j z => ⟨z.1, by have := z.2; omega⟩) (fun _ _ z => z) (Nat.le_refl _) (Nat.le_refl _), ⟨h1.fr f2 (fun a j z => ⟨by have := z.1; omega, fun _ => by have := z.2; omega⟩) (fun _ _ z => False.elim z), ?_, by omega, h4.fr (by omega) f2 (fun a j z => by have := z.1; omega) (fun _ _ z => False.elim z)⟩, rfl⟩
  · rw [xgI_u (by rw [hk0]; rfl), h2, xpI_u (by rw [hk0]; rfl)]
  · rw [di_eq, show (1 : Int32) = Int32.ofNat 1 from rfl, i_sub (by omega)]
    congr 1; omega
theorem ndC_bad {c q k : Nat} {e : Nat × Nat} {z : dwR9 Unit} (h : ndC b A N 8 L N M (.inr e) z ()) : bdC N 1 8 M e z := h
theorem c_unP {recS : Nat → rsL} {rec : dwSt → Nat → dwR9 Nat} {k q : Nat} (hr : hRec b A N L k recS rec) (h : lw b M A N L k q) (hq : q < L) (hR : lroom M L q) : cLz b A N L k q M (if k = 0 then .inr (3, q) else mapL (tmL (recS (q + 1))) (sgR (xbN A) L 41 (poL (recS (q + 1))))) (xth (m_X11_opens M N 1) (fun _ M53 => xrk M53 N 8 (xth (rec M53 N) (fun v54 M55 => xrk M55 N 8 (xth (m_X11_need M55 N 41) (fun _ M57 => xgI M57 94 N (fun v58 => xpI M57 94 N (v58 - 1) (fun M59 => some (.inl v54, M59)))) (KX Nat))) (KX Nat))) (KX Nat)) := by
  have hR' := hR
  unfold lroom at hR'
  obtain ⟨o1, o2⟩ := lw_opens (d := 1) h (by omega) (hR'.le (by omega) (by omega))
  have hn0 := h.1.2.1.1
  cases k with
  | zero =>
    rw [if_pos rfl]
    exact cLz_bad (fr.refl M) nz_N nz_N (bdC.th (o1 rfl)) (by omega) (by omega)
  | succ k =>
    rw [if_neg (by omega)]
    obtain ⟨M2, e2, f2, l2⟩ := o2 k rfl
    have e2' : m_X11_opens M N 1 = some (.inl (), M2) := e2
    have hk2 := l2.1.2.1.2.2.2.1
    have hR2 : lroom M2 L (q + 1) := lroom_fr hR f2 (by omega) (by omega) (by omega)
    have r := hr k (q + 1) M2 rfl (by omega) l2 hR2
    rw [e2', xth_v, xrk_u hk2]
    cases hx : recS (q + 1) with
    | inr e =>
      rw [hx] at r
      exact cLz_bad f2 sLc_N nz_N (bdC.th r) (by omega) (by omega)
    | inl u =>
      rw [hx] at r
      obtain ⟨M3, a, e3, f3, l3, ⟨p1, p2⟩, t3⟩ := r
      have hk3 := l3.1.2.1.2.2.2.1
      have hn3 := f3.n
      have F3 := f2.trans f3
      have hR3 : lroom M3 L u.2 := lroom_fr hR F3 (by omega) (by omega) (by omega)
      have hR3' := hR3
      unfold lroom at hR3'
      have q4 := cA_need (c := 41) (N := N) l3.1 (by omega) (by omega) (Nat.le_refl N) (hR3'.le (by omega) (by omega))
      have q4' : ndC b A N 8 L N M3 (sgS (xbN A) L 41 u.2) (m_X11_need M3 N 41) () := q4
      rw [e3, xth_v, xrk_u hk3]
      show cLz b A N L (k + 1) q M (mapL u.1 (sgS (xbN A) L 41 u.2)) _
      cases hs : sgS (xbN A) L 41 u.2 with
      | inr e =>
        rw [hs] at q4'
        exact cLz_bad F3 sLc_N nz_N (bdC.th (show bdC N 1 8 M3 e _ from q4')) (by omega) (by omega)
      | inl p' =>
        rw [hs] at q4'
        obtain ⟨M4, e4, f4, c4⟩ := q4'
        have l4 := lw_po l3 f4 c4
        obtain ⟨g1, g2⟩ := sgS_le hs
        obtain ⟨M5, e5, f5, l5, n5⟩ := lw_close l4 (k := k + 1) rfl h.2.2.1 (fun M59 => (some (.inl a, M59) : dwR9 Nat))
        rw [e4, xth_v, e5]
        have F5 := (F3.t0 (f4.mono sPo_c (fun _ _ z => z) (Nat.le_refl _) (Nat.le_refl _))).t0 f5
        refine ⟨M5, a, rfl, F5.mono (fun _ _ z => z) (fun _ _ z => z) (show 0 + 5 * (u.2 - (q + 1)) ≤ 5 * (p' - q) by omega) (show 0 + 36 * (u.2 - (q + 1)) ≤ 36 * (p' - q) by omega), l5, ⟨by show q ≤ p'; omega, g2⟩, fun f => ?_⟩
        exact tmr_fr f5 frT_c frT_z _ _ _ (tmr_fr f4 (fun a j _ z => Or.inl (Nat.le_of_eq z.1)) frT_z _ _ _ (t3 f))
theorem c_unD {k q : Nat} (h : lw b M A N L k q) (hbl : blS (xbN A) L q = q) (hR : lroom M L q) : cLz b A N L k q M (unN (xbN A) L q) (xnew M 14 (fun o46 M47 => xrk M47 N 8 (xth (m_X11_number M47 N 0 999) (fun v48 M49 => xmb (m_X8_init M49 o46 v48) (fun _ M51 => some (.inl o46, M51))) (KX Nat)))) := by
  have hR' := hR
  unfold lroom at hR'
  have hN := h.1.2.1.1
  have hb := h.1.2.1.2.1
  have f1 : fr nz nz 1 1 M (dwMk M (0, 14) 1) := (fr.refl M).mk _ _
  have k1 : dwK (dwMk M (0, 14) 1) (dwN M) = (0, 14) := by rw [dk_Mk, if_pos rfl]
  have n1 : dwN (dwMk M (0, 14) 1) = dwN M + 1 := rfl
  have l1 := lw_z h f1
  have hR1 : room (dwMk M (0, 14) 1) 1 8 := (hR'.le (n' := 1 + 1) (u' := 1 + 8) (by omega) (by omega)).fr f1
  rw [xnew_u (n := 1) (by decide) (hR'.le (by omega) (by omega))]
  generalize dwMk M (0, 14) 1 = M1 at *
  have hk1 := l1.1.2.1.2.2.2.1
  have q1 := cA_num (lo := 0) (hi := 999) l1.1 (Nat.le_refl N) hR1
  rw [xrk_u hk1]
  unfold unN
  cases hx : nbS (xbN A) L 0 999 q with
  | inr e =>
    rw [hx] at q1
    exact cLz_bad f1 nz_N nz_N (bdC.th q1) (by omega) (by omega)
  | inl z =>
    rw [hx] at q1
    obtain ⟨M2, e2, f2, c2, -, -⟩ := q1
    obtain ⟨a1, a2, a3, a4⟩ := nbS_le h.1.2.2.2.1 hx
    have l2 := lw_no l1 f2 c2
    have k2 : dwK M2 (dwN M) = (0, 14) := (f2.k (by omega)).trans k1
    have f3 := frP M2 (dwN M) 115 (Int32.ofNat z.1)
    have hn2 := f2.n
    have e3 : m_X8_init M2 (dwN M) (Int32.ofNat z.1) = some ((), dwPI M2 (dwN M) 115 (Int32.ofNat z.1)) := by
      unfold m_X8_init m_X3_init
      rw [xob_v, xpI_u (by rw [k2]; rfl)]
    rw [e2, xth_v, e3, xmb_v]
    have F : fr (sLc N) nz 1 1 M (dwPI M2 (dwN M) 115 (Int32.ofNat z.1)) := (((f1.mono (S' := fun a k => sLc N a k ∨ a = dwN M) (Z' := nz) (fun _ _ z => False.elim z) (fun _ _ z => z) (Nat.le_refl _) (Nat.le_refl _)).t0 (f2.mono (fun a j z => Or.inl (sNo_c a j z)) (fun _ _ z => z) (Nat.le_refl _) (Nat.le_refl _))).t0 (f3.mono (fun a j z => Or.inr z) (fun _ _ z => z) (Nat.le_refl _) (Nat.le_refl _))).old (fun a k ha z => z.resolve_right (by omega)) (fun _ _ _ z => z)
    refine ⟨_, dwN M, rfl, F.mono (fun _ _ z => z) (fun _ _ z => z) (show 1 ≤ 5 * (z.2 - q) by omega) (show 1 ≤ 36 * (z.2 - q) by omega), lw_to l2 f3 (fun a k ha z => by have : a = dwN M := z; exact ⟨by omega, fun e => by omega⟩) (fun _ _ _ z => z) (c2.fr f3 (fun a k z => by have : a = dwN M := z; exact ⟨by omega, fun e => by omega⟩) (fun _ _ z => False.elim z)), ⟨by show q ≤ z.2; omega, a3⟩, fun f => ⟨⟨hN, ?_⟩, Or.inl ⟨k2, ?_⟩⟩⟩
    · show dwN M < dwN M2; omega
    · rw [di_eq]; rfl
end LAW
