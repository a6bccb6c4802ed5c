/-! A WORK read: the component's reader -/
theorem stF_ok {T : dvT} {lw : (Nat → Int32) → Int32} {X : Nat → Nat} {L k p : Nat} {rec : Nat → rsW} (hp : p ≤ L) (hr : ∀ k', k = k' + 1 → ∀ p, p ≤ L → okW L p k' (rec p)) : okW L p k (stF T lw X L rec k p) := by
  intro t p' h
  obtain ⟨g1, g2⟩ := blS_le (X := X) (L := L) _ p rfl
  have g2 := g2 hp
  have hw := wdS_le (X := X) (L := L) _ (blS X L p) rfl g2
  unfold stF at h
  by_cases c1 : stV X L (blS X L p) = -1
  · rw [if_pos c1] at h; cases h
  rw [if_neg c1] at h
  obtain ⟨s1, s2, s3, s4⟩ := swStep_len (ws := (wdS X L (blS X L p)).take 10) (v := stV X L (blS X L p)) rfl c1
  rw [List.length_take] at s1 s2
  obtain ⟨h1, h2⟩ := mpW_inl h
  obtain ⟨q, e5, e6⟩ := sgR_inl h1
  obtain ⟨t2, e4⟩ := poW_inl e5
  obtain ⟨f1, f2⟩ := sgS_le e6
  rw [h2, e4]
  show p + 4 * t2.2.1 ≤ p' ∧ p' ≤ L ∧ 1 ≤ t2.2.1 ∧ t2.2.2 ≤ k + 1
  unfold boW at e4
  by_cases c2 : stV X L (blS X L p) = 5
  · rw [if_pos c2] at e4
    by_cases c3 : k = 0
    · rw [if_pos c3] at e4; cases e4
    · rw [if_neg c3] at e4
      obtain ⟨k', rfl⟩ : ∃ k', k = k' + 1 := ⟨k - 1, by omega⟩
      obtain ⟨a1, a2, a3, a4⟩ := agW_ok hw (hr k' rfl) t2 q e4
      exact ⟨by omega, f2, a3, a4⟩
  · rw [if_neg c2] at e4
    obtain ⟨a1, a2, a3, a4⟩ := acW_ok hw t2 q e4
    exact ⟨by omega, f2, by omega, by omega⟩
theorem stW_ok {T : dvT} {lw : (Nat → Int32) → Int32} {X : Nat → Nat} {L : Nat} : ∀ k p, p ≤ L → okW L p k (stW T lw X L k p) := by
  intro k
  induction k with
  | zero => intro p hp; exact stF_ok hp (fun k' e => absurd e (by omega))
  | succ k ih =>
    intro p hp
    exact stF_ok hp (fun k' e p hp => by
      have e' : k' = k := by omega
      subst e'
      exact ih p hp)
section WK
variable {b : Nat} {w : Nat → Nat} {M : dwSt} {A : dvA} {T : dvT} {lw : (Nat → Int32) → Int32} {N d L : Nat}
/-- the component reads a work; k may still be opened -/
def wkC (b : Nat) (w : Nat → Nat) (M : dwSt) (A : dvA) (T : dvT) (N d L k p : Nat) : Prop := cAt b M A N 9 L p ∧ dwI M N 94 = Int32.ofNat (6 - k) ∧ k ≤ 6 ∧ KS b M ∧ (dwR M N 108 = some d ∧ cToldAt b w M d T ∧ tOK T) ∧ ∀ a, N ≤ a → w a = 3
theorem wk_to {S Z : Nat → Nat → Prop} {n u k p q : Nat} {M1 : dwSt} (h : wkC b w M A T N d L k p) (f : fr S Z n u M M1) (hS : ∀ a k, a < dwN M → S a k → N ≤ a ∧ (a = N → k ≠ 94)) (hZ : ∀ a k, a < dwN M → Z a k → N < a) (c : cAt b M1 A N 9 L q) : wkC b w M1 A T N d L k q := by
  obtain ⟨h1, h2, h3, h4, ⟨h5, h6, h7⟩, h8⟩ := h
  have hN := h1.2.1.1
  have hb := h1.2.1.2.1
  have f' := f.old (S' := fun a k => a < dwN M ∧ S a k) (Z' := fun a k => a < dwN M ∧ Z a k) (fun a k ha z => ⟨ha, z⟩) (fun a k ha z => ⟨ha, z⟩)
  exact ⟨c, (f'.i hN (fun z => (hS _ _ z.1 z.2).2 rfl rfl)).trans h2, h3, h4.fr (by omega) f' (fun a k z => by have := (hS a k z.1 z.2).1; omega) (fun a k z => by have := hZ a k z.1 z.2; omega), ⟨(f'.r hN (fun z => by have := hZ _ _ z.1 z.2; omega)).trans h5, h6.fr f' (fun a k z _ => by rw [h8 a (hS a k z.1 z.2).1]; omega) (fun a k z _ => by rw [h8 a (by have := hZ a k z.1 z.2; omega)]; omega), h7⟩, h8⟩
theorem wk_po {k p q : Nat} {n u : Nat} {M1 : dwSt} (h : wkC b w M A T N d L k p) (f : fr (sPo N) nz n u M M1) (c : cAt b M1 A N 9 L q) : wkC b w M1 A T N d L k q := wk_to h f (fun a k _ z => by have := z.1; have := z.2; exact ⟨by omega, fun _ => by omega⟩) (fun _ _ _ z => False.elim z) c
theorem wk_no {k p q : Nat} {n u : Nat} {M1 : dwSt} (h : wkC b w M A T N d L k p) (f : fr (sNo N) nz n u M M1) (c : cAt b M1 A N 9 L q) : wkC b w M1 A T N d L k q := wk_to h f (fun a k _ z => by have := z.1; have := z.2; exact ⟨by omega, fun _ => by omega⟩) (fun _ _ _ z => False.elim z) c
theorem wk_z {k p : Nat} {n u : Nat} {M1 : dwSt} (h : wkC b w M A T N d L k p) (f : fr nz nz n u M M1) : wkC b w M1 A T N d L k p := wk_to h f (fun a k _ z => False.elim z) (fun _ _ _ z => False.elim z) (h.1.fr f (fun _ _ z => False.elim z) (fun _ _ z => False.elim z))
theorem wk_sign {k p : Nat} (h : wkC b w M A T N d L k p) : ∃ M2, m_X11_sign M N = some (sgC (xbN A) L (blS (xbN A) L p), M2) ∧ fr (sPo N) nz 0 0 M M2 ∧ wkC b w M2 A T N d L k (blS (xbN A) L p) := by
  obtain ⟨M2, e, f, c⟩ := cA_sign h.1
  exact ⟨M2, e, f, wk_po h f c⟩
/-- a number read -/
def wnC (b : Nat) (w : Nat → Nat) (A : dvA) (T : dvT) (N d L k : Nat) (M : dwSt) (x : (Nat × Nat) ⊕ (Nat × Nat)) (z : dwR9 Int32) : Prop := match x with
  | .inl v => ∃ M2, z = some (.inl (Int32.ofNat v.1), M2) ∧ fr (sNo N) nz 0 0 M M2 ∧ wkC b w M2 A T N d L k v.2
  | .inr e => bdC N 1 8 M e z
theorem wk_num {k p : Nat} {lo hi : Int32} (h : wkC b w M A T N d L k p) (hR : room M 1 8) : wnC b w A T N d L k M (nbS (xbN A) L lo hi p) (m_X11_number M N lo hi) := by
  have q := cA_num (lo := lo) (hi := hi) h.1 (Nat.le_refl N) hR
  cases hx : nbS (xbN A) L lo hi p with
  | inr e => rw [hx] at q; exact q
  | inl v =>
    rw [hx] at q
    obtain ⟨M2, e2, f2, c2, -, -⟩ := q
    exact ⟨M2, e2, f2, wk_no h f2 c2⟩
theorem wk_person {k p : Nat} (h : wkC b w M A T N d L k p) (hR : room M 1 8) : wnC b w A T N d L k M (nbS (xbN A) L 0 (hiN (tP T)) p) (m_X22_person M N) := by
  have hk := h.1.2.1.2.2.2.1
  obtain ⟨h5, h6, h7⟩ := h.2.2.2.2.1
  obtain ⟨-, kd, ⟨l, r23, h4⟩, -⟩ := id h6
  have q := wk_num (lo := 0) (hi := hiN (tP T)) h hR
  have l26 := h4.2.1
  have l126 := h4.2.2.1
  unfold m_X22_person
  rw [xgR_v (t := d) (by rw [hk]; rfl) h5, xgR_v (t := l) (by rw [kd]; rfl) r23, xrk_u l26]
  unfold m_J2_size
  rw [xgI_u (by rw [l26]; rfl), l126, xob_v, xrk_u hk]
  show wnC b w A T N d L k M _ (xth (m_X11_number M N 0 (hiN (tP T))) _ _)
  cases hx : nbS (xbN A) L 0 (hiN (tP T)) p with
  | inr e => rw [hx] at q; exact bdC.th q
  | inl v =>
    rw [hx] at q
    obtain ⟨M2, e2, f2, c2⟩ := q
    rw [e2, xth_v]
    exact ⟨M2, rfl, f2, c2⟩
end WK
