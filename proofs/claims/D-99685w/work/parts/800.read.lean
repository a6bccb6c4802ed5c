/-! A WORK read: the component's again, whole -/
section WK
variable {b : Nat} {w : Nat → Nat} {M : dwSt} {A : dvA} {T : dvT} {lw : (Nat → Int32) → Int32} {N d L : Nat}
def cBz (b : Nat) (w : Nat → Nat) (A : dvA) (T : dvT) (lw : (Nat → Int32) → Int32) (N d L k q : Nat) (M : dwSt) (x : rsW) (z : dwR9 Nat) : Prop := match x with
  | .inl u => ∃ M2 o, z = some (.inl o, M2) ∧ fr (sLc N) nz (3 * (u.2 - q) - 10) (60 * (u.2 - q) - 300) M M2 ∧ wkC b w M2 A T N d L k u.2 ∧ (q + 8 ≤ u.2 ∧ u.2 ≤ L) ∧ cStp (fun a => dwN M ≤ a) M2 T lw u.1.2.2 o u.1.1
  | .inr e => bdC N (3 * (L - q) + 5) (60 * (L - q) + 24) M e z
theorem c_again {recS : Nat → rsW} {rec : dwSt → Nat → dwR9 Nat} {k q : Nat} (hr : ∀ k', k = k' + 1 → hWec b w A T lw N d L k' recS rec) (hL : L ≤ 150) (h : wkC b w M A T N d L k q) (hq : q + 5 ≤ L) (hR : room M (3 * (L - q) + 5) (60 * (L - q) + 24)) : cBz b w A T lw N d L k q M (if k = 0 then .inr (3, q) else agW (xbN A) L recS (q + 5)) (F_X22_again rec M N) := by
  have hk := h.1.2.1.2.2.2.1
  have hNN := h.1.2.1.1
  obtain ⟨o1, o2⟩ := wk_opens (dd := 5) h hq (hR.le (by omega) (by omega))
  unfold F_X22_again
  rw [xrk_u hk]
  cases k with
  | zero =>
    rw [if_pos rfl]
    exact (bdC.th (o1 rfl)).le (by omega) (by omega)
  | succ k =>
    rw [if_neg (by omega)]
    obtain ⟨M2, e2, f2, l2⟩ := o2 k rfl
    have e2' : m_X11_opens M N 5 = some (.inl (), M2) := e2
    have hk6 := h.2.2.1
    have n2 := f2.n
    have hR2 : room M2 (3 * (L - q) + 5) (60 * (L - q) + 24) := (hR.le (n' := 0 + (3 * (L - q) + 5)) (u' := 0 + (60 * (L - q) + 24)) (by omega) (by omega)).fr f2
    rw [e2', xth_v, xnew_u (n := 2) (by decide) (hR2.le (by omega) (by omega))]
    obtain ⟨f4, l4, k4, n4⟩ := wk_new (ci := 25) (n := 2) l2
    have hR4 : room (dwMk M2 (0, 25) 2) 10 200 := (hR2.le (n' := 1 + 10) (u' := 2 + 200) (by omega) (by omega)).fr f4
    generalize dwMk M2 (0, 25) 2 = M4 at *
    have hk4 := l4.1.2.1.2.2.2.1
    have q5 := wk_num (lo := 0) (hi := 60) l4 (hR4.le (by omega) (by omega))
    rw [xrk_u hk4]
    have FA : fr (sLc N) nz 1 2 M M4 := (f2.trans (f4.mono (fun _ _ z => False.elim z) (fun _ _ z => z) (Nat.le_refl _) (Nat.le_refl _))).mono (fun _ _ z => z) (fun _ _ z => z) (by omega) (by omega)
    unfold agW
    cases hx : nbS (xbN A) L 0 60 (q + 5) with
    | inr e =>
      rw [hx] at q5
      exact (bdC.pre (bdC.th q5) FA sLc_N nz_N).le (by omega) (by omega)
    | inl v =>
      rw [hx] at q5
      obtain ⟨M6, e6, f6, l6⟩ := q5
      obtain ⟨v1, v2, v3, vI⟩ := nbS_le hq hx
      have hv60 := (inV_le (lo := 0) (hi := 60) (by omega) (by omega) (by omega) vI).2
      have n6 := f6.n
      have k6 : dwK M6 (dwN M2) = (0, 25) := (f6.k (by omega)).trans k4
      have hR6 : room M6 10 200 := (hR4.le (n' := 0 + 10) (u' := 0 + 200) (by omega) (by omega)).fr f6
      obtain ⟨M8, e8, f8, n8, k8, i122, r123, L8⟩ := c_mkAg (n := v.1) k6 (by omega) (hR6.le (by omega) (by omega))
      have hN2 : N < dwN M2 := l2.1.2.1.1
      have hb := l2.1.2.1.2.1
      have l8 : wkC b w M8 A T N d L k v.2 := wk_to l6 f8 (fun a k _ z => by have : a = dwN M2 := z; exact ⟨by omega, fun e => by omega⟩) (fun a k _ z => by have : a = dwN M2 := z; omega) (l6.1.fr f8 (fun a k z => by have : a = dwN M2 := z; exact ⟨by omega, fun e => by omega⟩) (fun a k z => by have : a = dwN M2 := z; exact ⟨by omega, by omega⟩))
      have hk8 := l8.1.2.1.2.2.2.1
      have hR8 : room M8 1 8 := (hR6.le (n' := 2 + 1) (u' := 4 + 8) (by omega) (by omega)).fr f8
      have FB : fr (sLc N) nz 3 6 M M8 := (((FA.mono (S' := fun a k => sLc N a k ∨ a = dwN M2) (Z' := fun a k => a = dwN M2) (fun a k z => Or.inl z) (fun _ _ z => False.elim z) (Nat.le_refl _) (Nat.le_refl _)).t0 (f6.mono (fun a k z => Or.inl (sNo_c a k z)) (fun _ _ z => False.elim z) (Nat.le_refl _) (Nat.le_refl _))).trans (f8.mono (fun a k z => Or.inr z) (fun _ _ z => z) (Nat.le_refl _) (Nat.le_refl _))).old (fun a k ha z => z.resolve_right (by omega)) (fun a k ha z => by have : a = dwN M2 := z; omega) |>.mono (fun _ _ z => z) (fun _ _ z => z) (by omega) (by omega)
      rw [e6, xth_v, e8, xmb_v, xrk_u hk8]
      have q9 := cA_need (c := 91) (N := N) l8.1 (by omega) (by omega) (Nat.le_refl N) hR8
      have q9' : ndC b A N 9 L N M8 (sgS (xbN A) L 91 v.2) (m_X11_need M8 N 91) () := q9
      show cBz b w A T lw N d L (k + 1) q M (match sgS (xbN A) L 91 v.2 with
        | .inl p => (match agF (xbN A) L recS (L + 1) [] 0 0 p with
          | .inl u => .inl ((agG v.1 (sqG u.1.1), u.1.2.1 + 1, u.1.2.2 + 1), u.2)
          | .inr e => .inr e)
        | .inr e => .inr e) _
      cases hs : sgS (xbN A) L 91 v.2 with
      | inr e =>
        rw [hs] at q9'
        exact (bdC.pre (bdC.th (show bdC N 1 8 M8 e _ from q9')) FB sLc_N nz_N).le (by omega) (by omega)
      | inl p =>
        rw [hs] at q9'
        obtain ⟨M10, e10', f10, c10⟩ := q9'
        have l10 := wk_po l8 f10 c10
        obtain ⟨g1, g2⟩ := sgS_le hs
        have n10 := f10.n
        have L10 : rwL M10 (dwN M6) 0 (dwN M6 + 1) 1 (fun _ => 0) := rwL_fr L8 f10 (fun z => by have := z.1; omega) (fun z => z) (fun k z => z)
        have k10 : dwK M10 (dwN M2) = (0, 25) := (f10.k (by omega)).trans k8
        have r10 : dwR M10 (dwN M2) 123 = some (dwN M6) := (f10.r (by omega) (fun z => z)).trans r123
        have i10 : dwI M10 (dwN M2) 122 = Int32.ofNat v.1 := (f10.i (by omega) (fun z => by have := z.1; omega)).trans i122
        have FC : fr (sLc N) nz 3 6 M M10 := FB.t0 (f10.mono sPo_c (fun _ _ z => z) (Nat.le_refl _) (Nat.le_refl _))
        have hR10 : wroom M10 L p := by
          unfold wroom
          exact (hR.le (n' := 3 + (3 * (L - p) + 10)) (u' := 6 + (60 * (L - p) + 60)) (by omega) (by omega)).fr FC
        have r := c_agL (K := fun (M11 : dwSt) => xgI M11 92 N (fun v12 => xpI M11 92 N (v12 + 1) (fun M13 => xgI M13 94 N (fun v14 => xpI M13 94 N (v14 - 1) (fun M15 => (some (.inl (dwN M2), M15) : dwR9 Nat)))))) (hr k rfl) hL (n0 := dwN M2) (o3 := dwN M2) (l := dwN M6) hN2 (by omega) (Nat.le_refl _) (by omega) (L + 1) 1000000 [] 0 0 p M10 (dwN M6 + 1) 1 (fun _ => 0) (by omega) (by omega) (by simp) l10 k10 (by omega) r10 ⟨by omega, by omega, by omega⟩ L10 (fun i G hi => by simp at hi) hR10
        rw [e10', xth_v, jn_u]
        dsimp only
        generalize agF (xbN A) L recS (L + 1) [] 0 0 p = R at r ⊢
        cases R with
        | inr e => exact (bdC.pre r FC sLc_N nz_N).le (by omega) (by omega)
        | inl u =>
          obtain ⟨M11, e11, cap, g, qe, uq, qL, e12, f11, l11, pq, hle, LL, GG⟩ := r
          obtain ⟨M12, e13, f12, l12⟩ := wk_close (k := k + 1) l11 qL rfl hk6 (fun M15 => (some (.inl (dwN M2), M15) : dwR9 Nat))
          have n11 := f11.n
          have n12 := f12.n
          have FD : fr (sLc N) nz (3 * (u.2 - q) - 10) (60 * (u.2 - q) - 300) M M12 := (((FC.mono (S' := fun a k => sLc N a k ∨ dwN M2 ≤ a) (Z' := fun a k => dwN M2 ≤ a) (fun a k z => Or.inl z) (fun _ _ z => False.elim z) (Nat.le_refl _) (Nat.le_refl _)).trans (f11.mono (fun a k z => z.elim Or.inl (fun z => Or.inr z.1)) (fun a k z => z.1) (Nat.le_refl _) (Nat.le_refl _))).t0 (f12.mono (fun a k z => Or.inl z) (fun _ _ z => False.elim z) (Nat.le_refl _) (Nat.le_refl _))).old (fun a k ha z => z.resolve_right (by omega)) (fun a k ha z => by omega) |>.mono (fun _ _ z => z) (fun _ _ z => z) (by omega) (by omega)
          have fz : frV (fun a => dwN M2 ≤ a) (sLc N) nz := fun a k ha => ⟨fun z => by have := z.1; omega, fun z => z⟩
          have k12 : dwK M12 (dwN M2) = (0, 25) := (f12.k (by omega)).trans ((f11.k (by omega)).trans k10)
          have i12 : dwI M12 (dwN M2) 122 = Int32.ofNat v.1 := (f12.i (by omega) (fun z => by have := z.1; omega)).trans ((f11.i (by omega) (fun z => by rcases z with z | z; have := z.1; omega; exact z.2 rfl)).trans i10)
          have r12 : dwR M12 (dwN M2) 123 = some (dwN M6) := (f12.r (by omega) (fun z => z)).trans ((f11.r (by omega) (fun z => z.2 rfl)).trans r10)
          have LM : rwL M12 (dwN M6) u.1.1.length e11 cap g := rwL_fr LL f12 (fun z => by have := z.1; omega) (fun z => z) (fun k z => z)
          rw [e12, e13]
          refine ⟨M12, dwN M2, rfl, FD, by rw [uq]; exact l12, ⟨by show q + 8 ≤ u.2; omega, by show u.2 ≤ L; omega⟩, ⟨show dwN M ≤ dwN M2 by omega, by omega⟩, Or.inr ⟨v.1, dwN M6, e11, cap, g, u.1.1, hv60, k12, i12, r12, ⟨show dwN M ≤ dwN M6 by omega, show dwN M ≤ e11 by omega⟩, LM, fun i G hi => ?_, rfl⟩⟩
          exact cStp_V (fun a _ ha => Nat.le_trans n2 ha.1) _ _ _ (cStp_fr f12 (fun a k ha => ⟨fun z => by have := z.1; have := ha.1; omega, fun z => z⟩) _ _ _ (GG i G hi))
end WK
