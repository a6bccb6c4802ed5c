/-! A WORK read: the component's list, whole -/
def wkS (T : dvT) (lw : (Nat → Int32) → Int32) (X : Nat → Nat) (L : Nat) : (List (dgS → dgS) × Nat × Nat) ⊕ (Nat × Nat) := wkF T lw X L L [] 0 0 (blS X L 0)
section WK
variable {b : Nat} {w : Nat → Nat} {M : dwSt} {A : dvA} {T : dvT} {lw : (Nat → Int32) → Int32} {N d L : Nat}
theorem c_readsW (hL : L ≤ 150) (h : wkC b w M A T N d L 6 0) (hR : room M (3 * L + 20) (60 * L + 80)) : match wkS T lw (xbN A) L with
    | .inl u => ∃ M2 e2 cap2 g2, m_X22_reads M N = some (.inl (dwN M), M2) ∧ fr (sLc N) nz (3 * L + 20) (60 * L + 80) M M2 ∧ wkC b w M2 A T N d L 6 L ∧ (dwN M ≤ e2 ∧ e2 ≠ dwN M) ∧ rwL M2 (dwN M) u.1.length e2 cap2 g2 ∧ (∀ i G, u.1[i]? = some G → cStp (fun a => dwN M ≤ a ∧ a ≠ dwN M ∧ a ≠ e2) M2 T lw u.2.2 (g2 i) G)
    | .inr e => bdC N (3 * L + 20) (60 * L + 80) M e (m_X22_reads M N) := by
  have hNN := h.1.2.1.1
  obtain ⟨M4, e4, f4, L4, n4⟩ := c_mkL (M := M) (c := 2) (by omega) (hR.le (by omega) (by omega))
  have l4 := wk_z h f4
  have hk4 := l4.1.2.1.2.2.2.1
  obtain ⟨M6, e6, f6, l6⟩ := wk_sign l4
  have n6 := f6.n
  have F6 : fr (sLc N) nz 2 5 M M6 := (f4.mono (S' := sLc N) (Z' := nz) (fun _ _ z => False.elim z) (fun _ _ z => z) (Nat.le_refl _) (Nat.le_refl _)).t0 (f6.mono sPo_c (fun _ _ z => z) (Nat.le_refl _) (Nat.le_refl _))
  have L6 : rwL M6 (dwN M) 0 (dwN M + 1) 2 (fun _ => 0) := rwL_fr L4 f6 (fun z => by have := z.1; omega) (fun z => z) (fun k z => z)
  have hle := (blS_le (X := xbN A) (L := L) _ 0 rfl).2 (Nat.zero_le _)
  have hR6 : wroom M6 L (blS (xbN A) L 0) := by
    unfold wroom
    exact (hR.le (n' := 2 + (3 * (L - blS (xbN A) L 0) + 10)) (u' := 5 + (60 * (L - blS (xbN A) L 0) + 60)) (by omega) (by omega)).fr F6
  have r := c_wkL (T := T) (lw := lw) (K := fun (M7 : dwSt) => (some (.inl (dwN M), M7) : dwR9 Nat)) hL (n0 := dwN M) (l := dwN M) hNN (Nat.le_refl _) L 1000000 [] 0 0 (blS (xbN A) L 0) M6 (dwN M + 1) 2 (fun _ => 0) (by omega) (by omega) (by simp) blS_bl l6 ⟨by omega, by omega⟩ L6 (fun i G hi => by simp at hi) hR6
  unfold m_X22_reads
  rw [xnew_u (n := 3) (by decide) (hR.le (by omega) (by omega))]
  have e4' : m_J2_init (dwMk M (0, 26) 3) (dwN M) 2 = some ((), M4) := e4
  rw [e4', xmb_v, xrk_u hk4, e6, xmb_v, jn_u]
  unfold wkS
  generalize wkF T lw (xbN A) L L [] 0 0 (blS (xbN A) L 0) = R at r ⊢
  cases R with
  | inr e => exact (bdC.pre r F6 sLc_N nz_N).le (by omega) (by omega)
  | inl u =>
    obtain ⟨M7, e7, cap7, g7, a3, a4, a5, a7, a8, a9⟩ := r
    exact ⟨M7, e7, cap7, g7, a3, ((F6.mono (S' := sWl N (dwN M)) (Z' := zWl (dwN M)) (fun a k z => Or.inl z) (fun _ _ z => False.elim z) (Nat.le_refl _) (Nat.le_refl _)).trans a4).old (fun a k ha z => z.resolve_right (by omega)) (fun a k ha z => by have : dwN M ≤ a := z; omega) |>.mono (fun _ _ z => z) (fun _ _ z => z) (by omega) (by omega), a5, a7, a8, a9⟩
end WK
