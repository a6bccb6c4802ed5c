/-! A LAND read: the component's clause -/
section LAND
variable {b : Nat} {M : dwSt} {A : dvA} {ρ : Type} {N L : Nat} {T : dvT} {c q : Nat}
/-- the component reads a land; it stands at q after c clauses -/
def lC (b : Nat) (M : dwSt) (A : dvA) (N L : Nat) (T : dvT) (c q : Nat) : Prop := cAt b M A N 4 L q ∧ dwR M N 95 = some (N + 1) ∧ lT b M N T ∧ dwI M (N + 1) 31 = Int32.ofNat c ∧ tOK T ∧ c ≤ 60 ∧ KS b M
theorem lC_to {S Z : Nat → Nat → Prop} {n u p : Nat} {M1 : dwSt} (h : lC b M A N L T c q) (f : fr S Z n u M M1) (hS : ∀ a k, a < dwN M → S a k → (a = N ∧ (k = 92 ∨ k = 93)) ∨ (dwK M a = (0, 28) ∧ b + 562 ≤ a)) (hZ : ∀ a k, a < dwN M → ¬ Z a k) (k : cAt b M1 A N 4 L p) : lC b M1 A N L T c p := by
  obtain ⟨h1, h2, h3, h4, h5, h6, h7⟩ := h
  have hk := h1.2.1.2.2.2.1
  have hN := h1.2.1.1
  have hb := h1.2.1.2.1
  have k1 := h3.2.1
  have hN9 := h3.1.2
  have f' := f.old (S' := fun a k => a < dwN M ∧ S a k) (Z' := nz) (fun a k ha z => ⟨ha, z⟩) (fun a k ha z => absurd z (hZ a k ha))
  have fl : frL (fun a k => a < dwN M ∧ S a k) M := fun a k ha z => by
    rcases hS a k ha z.2 with z | z
    · exact Or.inl (by rw [z.1]; exact hk)
    · exact Or.inr z.1
  refine ⟨k, (f'.r hN (fun z => z)).trans h2, lT_fr h3 f' fl (fun _ _ _ z => False.elim z), (f'.i (by omega) (frL_n fl (by omega) k1 (by omega) _)).trans h4, h5, h6, h7.fr (by omega) f' (fun a k z => ?_) (fun _ _ z => False.elim z)⟩
  rcases hS a k z.1 z.2 with z | z
  · omega
  · omega
/-- where a clause ends (before its sign), what it has told; or what is wrong -/
def clR (b : Nat) (A : dvA) (N L : Nat) (T' : dvT) (c : Nat) (R : rsP) (M : dwSt) (n u : Nat) (z : dwR9 Unit) : Prop := match R with
  | .inl p => ∃ M2, z = some (.inl (), M2) ∧ fr (atN N) (atN N) n u M M2 ∧ lC b M2 A N L T' c p
  | .inr e => bdC N n u M e z
theorem clR.pre {S Z : Nat → Nat → Prop} {T' : dvT} {R : rsP} {n u n' u' : Nat} {M1 M2 : dwSt} {z : dwR9 Unit} (h : clR b A N L T' c R M2 n u z) (f : fr S Z n' u' M1 M2) (hS : ∀ a k, S a k → N ≤ a) (hZ : ∀ a k, Z a k → N ≤ a) : clR b A N L T' c R M1 (n' + n) (u' + u) z := by
  cases R with
  | inl p =>
    obtain ⟨M3, e, f3, h3⟩ := h
    exact ⟨M3, e, (f.mono (S' := atN N) (Z' := atN N) hS hZ (Nat.le_refl _) (Nat.le_refl _)).trans f3, h3⟩
  | inr e => exact bdC.pre h f hS hZ
theorem clR.le {T' : dvT} {R : rsP} {n u n' u' : Nat} {z : dwR9 Unit} (h : clR b A N L T' c R M n u z) (hn : n ≤ n') (hu : u ≤ u') : clR b A N L T' c R M n' u' z := by
  cases R with
  | inl p =>
    obtain ⟨M3, e, f3, h3⟩ := h
    exact ⟨M3, e, f3.mono (fun _ _ z => z) (fun _ _ z => z) hn hu, h3⟩
  | inr e => exact bdC.le h hn hu
theorem frP (M : dwSt) (a k : Nat) (v : Int32) : fr (fun x _ => x = a) nz 0 0 M (dwPI M a k v) := (fr.refl (S := fun x _ => x = a) (Z := nz) M).pI (a := a) (k := k) v (Or.inl rfl)
theorem c_clP (h : lC b M A N L T c q) (hP : tP T < 7) (hR : room M 3 200) : clR b A N L (addP T (vaR (nbS (xbN A) L 0 3 q)) (vaR (nuR (xbN A) L 0 9 (poR (nbS (xbN A) L 0 3 q))))) c (poR (nuR (xbN A) L 0 9 (poR (nbS (xbN A) L 0 3 q)))) M 3 200 (xrk M N 4 (xth (m_X11_number M N 0 3) (fun v12 M13 => xgR M13 95 N (fun v14 => xgR M13 23 v14 (fun v15 => xnew M13 6 (fun o16 M17 => xrk M17 N 4 (xth (m_X11_number M17 N 0 9) (fun v18 M19 => xmb (m_X14_init M19 o16 v12 v18) (fun _ M21 => xrk M21 v15 26 (xmb (m_J2_add M21 v15 o16) (fun v22 M23 => some (.inl (), M23))))) (KX Unit)))))) (KX Unit))) := by
  have hk := h.1.2.1.2.2.2.1
  have hN := h.1.2.1.1
  have hb := h.1.2.1.2.1
  rw [xrk_u hk]
  have q1 := cA_num (lo := 0) (hi := 3) h.1 (Nat.le_refl N) (hR.le (by omega) (by omega))
  cases h1 : nbS (xbN A) L 0 3 q with
  | inr e =>
    rw [h1] at q1
    exact (bdC.th q1).le (by omega) (by omega)
  | inl z =>
    rw [h1] at q1
    obtain ⟨M2, e2, f2, k2, hz, k93⟩ := q1
    obtain ⟨a1, a2, a3, a4⟩ := nbS_le h.1.2.2.2.1 h1
    have hz3 := (inV_le (lo := 0) (hi := 3) (by omega) (by omega) (by omega) a4).2
    have l2 := lC_to h f2 (fun a k _ z => Or.inl ⟨z.1, z.2⟩) (fun _ _ _ z => z) k2
    have hk2 := k2.2.1.2.2.2.1
    have hn2 := f2.n
    have hR2 : room M2 3 200 := (hR.le (n' := 0 + 3) (u' := 0 + 200) (by omega) (by omega)).fr f2
    rw [e2, xth_v, xgR_v (by rw [hk2]; rfl) l2.2.1, xgR_v (by rw [l2.2.2.1.2.1]; rfl) l2.2.2.1.2.2.1.1, xnew_u (n := 2) (by decide) (hR2.le (by omega) (by omega))]
    have f3 : fr nz nz 1 2 M2 (dwMk M2 (0, 6) 2) := (fr.refl M2).mk _ _
    have kq3 : dwK (dwMk M2 (0, 6) 2) (dwN M2) = (0, 6) := by rw [dk_Mk, if_pos rfl]
    have n3 : dwN (dwMk M2 (0, 6) 2) = dwN M2 + 1 := rfl
    have k3 : cAt b (dwMk M2 (0, 6) 2) A N 4 L z.2 := k2.fr f3 (fun _ _ z => False.elim z) (fun _ _ z => False.elim z)
    have hR3 : room (dwMk M2 (0, 6) 2) 2 198 := (hR2.le (n' := 1 + 2) (u' := 2 + 198) (by omega) (by omega)).fr f3
    generalize dwMk M2 (0, 6) 2 = M3 at *
    have hk3 := k3.2.1.2.2.2.1
    have q3 := cA_num (lo := 0) (hi := 9) k3 (Nat.le_refl N) (hR3.le (by omega) (by omega))
    rw [xrk_u hk3]
    show clR b A N L (addP T z.1 (vaR (nbS (xbN A) L 0 9 z.2))) c (poR (nbS (xbN A) L 0 9 z.2)) M 3 200 _
    cases h2 : nbS (xbN A) L 0 9 z.2 with
    | inr e =>
      rw [h2] at q3
      exact (bdC.pre (bdC.pre (bdC.th q3) f3 (fun _ _ z => False.elim z) (fun _ _ z => False.elim z)) f2 (fun a k z => by have := z.1; omega) (fun _ _ z => False.elim z)).le (by omega) (by omega)
    | inl y =>
      rw [h2] at q3
      obtain ⟨M4, e4, f4, k4, hy, -⟩ := q3
      obtain ⟨b1, b2, b3, b4⟩ := nbS_le a3 h2
      have hy9 := (inV_le (lo := 0) (hi := 9) (by omega) (by omega) (by omega) b4).2
      have hn4 := f4.n
      have kq4 : dwK M4 (dwN M2) = (0, 6) := (f4.k (by omega)).trans kq3
      have e5 : m_X14_init M4 (dwN M2) (Int32.ofNat z.1) (Int32.ofNat y.1) = some ((), dwPI (dwPI M4 (dwN M2) 104 (Int32.ofNat z.1)) (dwN M2) 105 (Int32.ofNat y.1)) := by
        unfold m_X14_init
        rw [xpI_u (by rw [kq4]; rfl), xpI_u (by rw [dk_PI, kq4]; rfl)]
      have F25 : fr (fun a k => (a = N ∧ (k = 92 ∨ k = 93)) ∨ a = dwN M2) nz 1 2 M2 (dwPI (dwPI M4 (dwN M2) 104 (Int32.ofNat z.1)) (dwN M2) 105 (Int32.ofNat y.1)) := (((f3.mono (S' := fun a k => (a = N ∧ (k = 92 ∨ k = 93)) ∨ a = dwN M2) (Z' := nz) (fun _ _ z => False.elim z) (fun _ _ z => z) (Nat.le_refl _) (Nat.le_refl _)).t0 (f4.mono (fun a k z => Or.inl ⟨z.1, z.2⟩) (fun _ _ z => z) (Nat.le_refl _) (Nat.le_refl _))).pI _ (Or.inl (Or.inr rfl))).pI _ (Or.inl (Or.inr rfl))
      have k5 : cAt b (dwPI (dwPI M4 (dwN M2) 104 (Int32.ofNat z.1)) (dwN M2) 105 (Int32.ofNat y.1)) A N 4 L y.2 := k4.fr ((frP M4 _ 104 _).t0 (frP _ _ 105 _)) (fun a k z => ⟨by omega, fun e => by omega⟩) (fun _ _ z => False.elim z)
      have l5 := lC_to l2 F25 (fun a k ha z => Or.inl (z.resolve_right (by omega))) (fun _ _ _ z => z) k5
      have h104 : dwI (dwPI (dwPI M4 (dwN M2) 104 (Int32.ofNat z.1)) (dwN M2) 105 (Int32.ofNat y.1)) (dwN M2) 104 = Int32.ofNat z.1 := by rw [di_ne (by omega), di_eq]
      have h105 : dwI (dwPI (dwPI M4 (dwN M2) 104 (Int32.ofNat z.1)) (dwN M2) 105 (Int32.ofNat y.1)) (dwN M2) 105 = Int32.ofNat y.1 := di_eq
      have kq5 : dwK (dwPI (dwPI M4 (dwN M2) 104 (Int32.ofNat z.1)) (dwN M2) 105 (Int32.ofNat y.1)) (dwN M2) = (0, 6) := kq4
      have n5 : dwN (dwPI (dwPI M4 (dwN M2) 104 (Int32.ofNat z.1)) (dwN M2) 105 (Int32.ofNat y.1)) = dwN M4 := rfl
      have hR5 : room (dwPI (dwPI M4 (dwN M2) 104 (Int32.ofNat z.1)) (dwN M2) 105 (Int32.ofNat y.1)) 1 150 := (hR2.le (n' := 1 + 1) (u' := 2 + 150) (by omega) (by omega)).fr F25
      rw [e4, xth_v, e5, xmb_v]
      have F15 := f2.trans (F25.mono (S' := fun a k => a = N ∧ (k = 92 ∨ k = 93) ∨ a = dwN M2) (Z' := nz) (fun _ _ z => by omega) (fun _ _ z => z) (Nat.le_refl _) (Nat.le_refl _) |> fun g => (g.old (S' := sNo N) (Z' := nz) (fun a k ha z => ⟨by omega, by omega⟩) (fun _ _ _ z => z)))
      generalize dwPI (dwPI M4 (dwN M2) 104 (Int32.ofNat z.1)) (dwN M2) 105 (Int32.ofNat y.1) = M5 at *
      obtain ⟨M6, e6, f6, l6, i31⟩ := lT_addP l5.2.2.1 hP kq5 (by omega) (by omega) h104 h105 hR5
      obtain ⟨-, -, w5⟩ := l5.2.2.1.2.2.2.2.2
      obtain ⟨e1', c1', g1', e2', c2', g2', w1', -⟩ := w5
      have hn6 := f6.n
      rw [xrk_u w1'.1, e6, xmb_v]
      refine ⟨M6, rfl, ((F15.mono (S' := atN N) (Z' := atN N) (fun a k z => Nat.le_of_eq z.1.symm) (fun _ _ z => False.elim z) (Nat.le_refl _) (Nat.le_refl _)).trans (f6.mono (fun a k z => by have : N + 1 ≤ a := z; show N ≤ a; omega) (fun a k z => by have : N + 1 ≤ a := z; show N ≤ a; omega) (Nat.le_refl _) (Nat.le_refl _))).mono (fun _ _ z => z) (fun _ _ z => z) (by omega) (by omega), ?_, ?_, l6, i31.trans l5.2.2.2.1, tOK_addP l5.2.2.2.2.1 hP hz3 hy9, l5.2.2.2.2.2.1, l5.2.2.2.2.2.2.fr (by omega) f6 (fun a k z => by have : N + 1 ≤ a := z; omega) (fun a k z => by have : N + 1 ≤ a := z; omega)⟩
      · exact k5.fr f6 (fun a k z => by have : N + 1 ≤ a := z; exact ⟨by omega, fun e => by omega⟩) (fun a k z => by have : N + 1 ≤ a := z; exact ⟨by omega, by omega⟩)
      · exact (f6.r k5.2.1.1 (fun z => by have : N + 1 ≤ N := z; omega)).trans l5.2.1
theorem c_clJ (h : lC b M A N L T c q) (hP : tJ T < 6) (hR : room M 3 200) : clR b A N L (addJ T (vaR (nbS (xbN A) L 0 9 q)) (vaR (nuR (xbN A) L 1 20 (poR (nbS (xbN A) L 0 9 q))))) c (poR (nuR (xbN A) L 1 20 (poR (nbS (xbN A) L 0 9 q)))) M 3 200 (xrk M N 4 (xth (m_X11_number M N 0 9) (fun v12 M13 => xgR M13 95 N (fun v14 => xgR M13 24 v14 (fun v15 => xnew M13 7 (fun o16 M17 => xrk M17 N 4 (xth (m_X11_number M17 N 1 20) (fun v18 M19 => xmb (m_X15_init M19 o16 v12 v18) (fun _ M21 => xrk M21 v15 26 (xmb (m_J2_add M21 v15 o16) (fun v22 M23 => some (.inl (), M23))))) (KX Unit)))))) (KX Unit))) := by
  have hk := h.1.2.1.2.2.2.1
  have hN := h.1.2.1.1
  have hb := h.1.2.1.2.1
  rw [xrk_u hk]
  have q1 := cA_num (lo := 0) (hi := 9) h.1 (Nat.le_refl N) (hR.le (by omega) (by omega))
  cases h1 : nbS (xbN A) L 0 9 q with
  | inr e =>
    rw [h1] at q1
    exact (bdC.th q1).le (by omega) (by omega)
  | inl z =>
    rw [h1] at q1
    obtain ⟨M2, e2, f2, k2, hz, k93⟩ := q1
    obtain ⟨a1, a2, a3, a4⟩ := nbS_le h.1.2.2.2.1 h1
    have hz3 := (inV_le (lo := 0) (hi := 9) (by omega) (by omega) (by omega) a4).2
    have l2 := lC_to h f2 (fun a k _ z => Or.inl ⟨z.1, z.2⟩) (fun _ _ _ z => z) k2
    have hk2 := k2.2.1.2.2.2.1
    have hn2 := f2.n
    have hR2 : room M2 3 200 := (hR.le (n' := 0 + 3) (u' := 0 + 200) (by omega) (by omega)).fr f2
    rw [e2, xth_v, xgR_v (by rw [hk2]; rfl) l2.2.1, xgR_v (by rw [l2.2.2.1.2.1]; rfl) l2.2.2.1.2.2.1.2.1, xnew_u (n := 2) (by decide) (hR2.le (by omega) (by omega))]
    have f3 : fr nz nz 1 2 M2 (dwMk M2 (0, 7) 2) := (fr.refl M2).mk _ _
    have kq3 : dwK (dwMk M2 (0, 7) 2) (dwN M2) = (0, 7) := by rw [dk_Mk, if_pos rfl]
    have n3 : dwN (dwMk M2 (0, 7) 2) = dwN M2 + 1 := rfl
    have k3 : cAt b (dwMk M2 (0, 7) 2) A N 4 L z.2 := k2.fr f3 (fun _ _ z => False.elim z) (fun _ _ z => False.elim z)
    have hR3 : room (dwMk M2 (0, 7) 2) 2 198 := (hR2.le (n' := 1 + 2) (u' := 2 + 198) (by omega) (by omega)).fr f3
    generalize dwMk M2 (0, 7) 2 = M3 at *
    have hk3 := k3.2.1.2.2.2.1
    have q3 := cA_num (lo := 1) (hi := 20) k3 (Nat.le_refl N) (hR3.le (by omega) (by omega))
    rw [xrk_u hk3]
    show clR b A N L (addJ T z.1 (vaR (nbS (xbN A) L 1 20 z.2))) c (poR (nbS (xbN A) L 1 20 z.2)) M 3 200 _
    cases h2 : nbS (xbN A) L 1 20 z.2 with
    | inr e =>
      rw [h2] at q3
      exact (bdC.pre (bdC.pre (bdC.th q3) f3 (fun _ _ z => False.elim z) (fun _ _ z => False.elim z)) f2 (fun a k z => by have := z.1; omega) (fun _ _ z => False.elim z)).le (by omega) (by omega)
    | inl y =>
      rw [h2] at q3
      obtain ⟨M4, e4, f4, k4, hy, -⟩ := q3
      obtain ⟨b1, b2, b3, b4⟩ := nbS_le a3 h2
      have hy9 := (inV_le (lo := 1) (hi := 20) (by omega) (by omega) (by omega) b4).2
      have hn4 := f4.n
      have kq4 : dwK M4 (dwN M2) = (0, 7) := (f4.k (by omega)).trans kq3
      have e5 : m_X15_init M4 (dwN M2) (Int32.ofNat z.1) (Int32.ofNat y.1) = some ((), dwPI (dwPI M4 (dwN M2) 106 (Int32.ofNat z.1)) (dwN M2) 107 (Int32.ofNat y.1)) := by
        unfold m_X15_init
        rw [xpI_u (by rw [kq4]; rfl), xpI_u (by rw [dk_PI, kq4]; rfl)]
      have F25 : fr (fun a k => (a = N ∧ (k = 92 ∨ k = 93)) ∨ a = dwN M2) nz 1 2 M2 (dwPI (dwPI M4 (dwN M2) 106 (Int32.ofNat z.1)) (dwN M2) 107 (Int32.ofNat y.1)) := (((f3.mono (S' := fun a k => (a = N ∧ (k = 92 ∨ k = 93)) ∨ a = dwN M2) (Z' := nz) (fun _ _ z => False.elim z) (fun _ _ z => z) (Nat.le_refl _) (Nat.le_refl _)).t0 (f4.mono (fun a k z => Or.inl ⟨z.1, z.2⟩) (fun _ _ z => z) (Nat.le_refl _) (Nat.le_refl _))).pI _ (Or.inl (Or.inr rfl))).pI _ (Or.inl (Or.inr rfl))
      have k5 : cAt b (dwPI (dwPI M4 (dwN M2) 106 (Int32.ofNat z.1)) (dwN M2) 107 (Int32.ofNat y.1)) A N 4 L y.2 := k4.fr ((frP M4 _ 106 _).t0 (frP _ _ 107 _)) (fun a k z => ⟨by omega, fun e => by omega⟩) (fun _ _ z => False.elim z)
      have l5 := lC_to l2 F25 (fun a k ha z => Or.inl (z.resolve_right (by omega))) (fun _ _ _ z => z) k5
      have h106 : dwI (dwPI (dwPI M4 (dwN M2) 106 (Int32.ofNat z.1)) (dwN M2) 107 (Int32.ofNat y.1)) (dwN M2) 106 = Int32.ofNat z.1 := by rw [di_ne (by omega), di_eq]
      have h107 : dwI (dwPI (dwPI M4 (dwN M2) 106 (Int32.ofNat z.1)) (dwN M2) 107 (Int32.ofNat y.1)) (dwN M2) 107 = Int32.ofNat y.1 := di_eq
      have kq5 : dwK (dwPI (dwPI M4 (dwN M2) 106 (Int32.ofNat z.1)) (dwN M2) 107 (Int32.ofNat y.1)) (dwN M2) = (0, 7) := kq4
      have n5 : dwN (dwPI (dwPI M4 (dwN M2) 106 (Int32.ofNat z.1)) (dwN M2) 107 (Int32.ofNat y.1)) = dwN M4 := rfl
      have hR5 : room (dwPI (dwPI M4 (dwN M2) 106 (Int32.ofNat z.1)) (dwN M2) 107 (Int32.ofNat y.1)) 1 150 := (hR2.le (n' := 1 + 1) (u' := 2 + 150) (by omega) (by omega)).fr F25
      rw [e4, xth_v, e5, xmb_v]
      have F15 := f2.trans (F25.mono (S' := fun a k => a = N ∧ (k = 92 ∨ k = 93) ∨ a = dwN M2) (Z' := nz) (fun _ _ z => by omega) (fun _ _ z => z) (Nat.le_refl _) (Nat.le_refl _) |> fun g => (g.old (S' := sNo N) (Z' := nz) (fun a k ha z => ⟨by omega, by omega⟩) (fun _ _ _ z => z)))
      generalize dwPI (dwPI M4 (dwN M2) 106 (Int32.ofNat z.1)) (dwN M2) 107 (Int32.ofNat y.1) = M5 at *
      obtain ⟨M6, e6, f6, l6, i31⟩ := lT_addJ l5.2.2.1 hP kq5 (by omega) (by omega) h106 h107 hR5
      obtain ⟨-, -, w5⟩ := l5.2.2.1.2.2.2.2.2
      obtain ⟨e1', c1', g1', e2', c2', g2', -, -, w1', -⟩ := w5
      have hn6 := f6.n
      rw [xrk_u w1'.1, e6, xmb_v]
      refine ⟨M6, rfl, ((F15.mono (S' := atN N) (Z' := atN N) (fun a k z => Nat.le_of_eq z.1.symm) (fun _ _ z => False.elim z) (Nat.le_refl _) (Nat.le_refl _)).trans (f6.mono (fun a k z => by have : N + 1 ≤ a := z; show N ≤ a; omega) (fun a k z => by have : N + 1 ≤ a := z; show N ≤ a; omega) (Nat.le_refl _) (Nat.le_refl _))).mono (fun _ _ z => z) (fun _ _ z => z) (by omega) (by omega), ?_, ?_, l6, i31.trans l5.2.2.2.1, tOK_addJ l5.2.2.2.2.1 hP hz3, l5.2.2.2.2.2.1, l5.2.2.2.2.2.2.fr (by omega) f6 (fun a k z => by have : N + 1 ≤ a := z; omega) (fun a k z => by have : N + 1 ≤ a := z; omega)⟩
      · exact k5.fr f6 (fun a k z => by have : N + 1 ≤ a := z; exact ⟨by omega, fun e => by omega⟩) (fun a k z => by have : N + 1 ≤ a := z; exact ⟨by omega, by omega⟩)
      · exact (f6.r k5.2.1.1 (fun z => by have : N + 1 ≤ N := z; omega)).trans l5.2.1
theorem c_clS (h : lC b M A N L T c q) (hS : tS T < 12) (hR : room M 3 200) : clR b A N L (addS T (vaR (nbS (xbN A) L 0 (Int32.ofNat (tP T) - 1) q)) (vaR (nuR (xbN A) L 0 (Int32.ofNat (tP T) - 1) (poR (nbS (xbN A) L 0 (Int32.ofNat (tP T) - 1) q))))) c (match nuR (xbN A) L 0 (Int32.ofNat (tP T) - 1) (poR (nbS (xbN A) L 0 (Int32.ofNat (tP T) - 1) q)) with
    | .inl z => @ite _ (noSt T (vaR (nbS (xbN A) L 0 (Int32.ofNat (tP T) - 1) q)) z.1) (Classical.propDecidable _) (.inr (2, blS (xbN A) L (psR (nbS (xbN A) L 0 (Int32.ofNat (tP T) - 1) q)))) (.inl z.2)
    | .inr e => .inr e) M 3 200 (xgR M 95 N (fun v36 => xgR M 23 v36 (fun v37 => xrk M v37 26 (xob (m_J2_size M v37) (fun v38 => xrk M N 4 (xth (m_X11_number M N 0 (v38 - 1)) (fun v39 M40 => xgR M40 95 N (fun v41 => xgR M40 23 v41 (fun v42 => xrk M40 v42 26 (xob (m_J2_size M40 v42) (fun v43 => xrk M40 N 4 (xth (m_X11_number M40 N 0 (v43 - 1)) (fun v44 M45 => jn (fun (_u : Unit) => xnew M45 5 (fun o46 M47 => xgI M47 93 N (fun v48 => xmb (m_X13_init M47 o46 2 v48) (fun _ M50 => xrk0 M50 o46 5 ((fun cl q M => some (.inr (cl, q), M)) 0 o46 M50))))) (fun j477 => if v39 = v44 then j477 () else xgR M45 95 N (fun v51 => xgR M45 25 v51 (fun v52 => xaI M45 v52 v39 (fun v53 => if ((v53 >>> (v44 &&& 31)) &&& 1) = 1 then j477 () else xgR M45 95 N (fun v54 => xrk M45 v54 1 (xmb (m_X2_leads M45 v54 v39 v44) (fun _ M56 => some (.inl (), M56))))))))) (fun cl q M => some (.inr (cl, q), M)))))))) (fun cl q M => some (.inr (cl, q), M)))))))) := by
  have hk := h.1.2.1.2.2.2.1
  have hN := h.1.2.1.1
  have hb := h.1.2.1.2.1
  have hP7 := h.2.2.2.2.1.1
  have hsz : ∀ (M' : dwSt) p, lC b M' A N L T c p → ∀ {σ : Type} (K : Int32 → Option σ), xgR M' 95 N (fun v36 => xgR M' 23 v36 (fun v37 => xrk M' v37 26 (xob (m_J2_size M' v37) K))) = K (Int32.ofNat (tP T)) := by
    intro M' p l σ K
    have hk' := l.1.2.1.2.2.2.1
    obtain ⟨e1', c1', g1', e2', c2', g2', w1', -⟩ := l.2.2.1.2.2.2.2.2.2.2
    rw [xgR_v (by rw [hk']; rfl) l.2.1, xgR_v (by rw [l.2.2.1.2.1]; rfl) l.2.2.1.2.2.1.1, xrk_u w1'.1]
    unfold m_J2_size
    rw [xgI_u (by rw [w1'.1]; rfl), w1'.2.1, xob_v]
  rw [hsz M q h, xrk_u hk]
  have q1 := cA_num (lo := 0) (hi := Int32.ofNat (tP T) - 1) h.1 (Nat.le_refl N) (hR.le (by omega) (by omega))
  cases h1 : nbS (xbN A) L 0 (Int32.ofNat (tP T) - 1) q with
  | inr e =>
    rw [h1] at q1
    exact (bdC.th q1).le (by omega) (by omega)
  | inl z =>
    rw [h1] at q1
    obtain ⟨M2, e2, f2, k2, hz, k93⟩ := q1
    obtain ⟨a1, a2, a3, a4⟩ := nbS_le h.1.2.2.2.1 h1
    have hzP : z.1 < tP T := inV_lt (by omega) (by omega) a4
    have l2 := lC_to h f2 (fun a k _ z => Or.inl ⟨z.1, z.2⟩) (fun _ _ _ z => z) k2
    have hk2 := k2.2.1.2.2.2.1
    have hn2 := f2.n
    have hR2 : room M2 3 200 := (hR.le (n' := 0 + 3) (u' := 0 + 200) (by omega) (by omega)).fr f2
    rw [e2, xth_v, hsz M2 z.2 l2, xrk_u hk2]
    have q3 := cA_num (lo := 0) (hi := Int32.ofNat (tP T) - 1) k2 (Nat.le_refl N) (hR2.le (by omega) (by omega))
    show clR b A N L (addS T z.1 (vaR (nbS (xbN A) L 0 (Int32.ofNat (tP T) - 1) z.2))) c (match nbS (xbN A) L 0 (Int32.ofNat (tP T) - 1) z.2 with
      | .inl y => @ite _ (noSt T z.1 y.1) (Classical.propDecidable _) (.inr (2, blS (xbN A) L z.2)) (.inl y.2)
      | .inr e => .inr e) M 3 200 _
    cases h2 : nbS (xbN A) L 0 (Int32.ofNat (tP T) - 1) z.2 with
    | inr e =>
      rw [h2] at q3
      exact (bdC.pre (bdC.th q3) f2 (fun a k z => by have := z.1; omega) (fun _ _ z => False.elim z)).le (by omega) (by omega)
    | inl y =>
      rw [h2] at q3
      obtain ⟨M4, e4, f4, k4, hy, k93'⟩ := q3
      obtain ⟨b1, b2, b3, b4⟩ := nbS_le a3 h2
      have hyP : y.1 < tP T := inV_lt (by omega) (by omega) b4
      have l4 := lC_to l2 f4 (fun a k _ z => Or.inl ⟨z.1, z.2⟩) (fun _ _ _ z => z) k4
      have hk4 := k4.2.1.2.2.2.1
      have hn4 := f4.n
      have F14 := f2.t0 f4
      have hR4 : room M4 3 200 := (hR2.le (n' := 0 + 3) (u' := 0 + 200) (by omega) (by omega)).fr f4
      have T4 := l4.2.2.1
      rw [e4, xth_v, jn_u]
      have bad : bdC (α := Unit) N 3 200 M (2, blS (xbN A) L z.2) (xnew M4 5 (fun o46 M47 => xgI M47 93 N (fun v48 => xmb (m_X13_init M47 o46 2 v48) (fun _ M50 => xrk0 M50 o46 5 ((fun cl q M => some (.inr (cl, q), M)) 0 o46 M50))))) :=
        (bdC.pre (c_bad (α := Unit) (k := 2) (N := N) (M1 := M4) (o := N) (f := 93) (by omega) (by rw [hk4]; rfl) (by omega) k93' (hR4.le (by omega) (by omega))) F14 (fun a k z => by have := z.1; omega) (fun _ _ z => False.elim z)).le (by omega) (by omega)
      have hez : (Int32.ofNat z.1 = Int32.ofNat y.1) ↔ z.1 = y.1 := i_inj (by omega) (by omega)
      show clR b A N L (addS T z.1 y.1) c (@ite _ (noSt T z.1 y.1) (Classical.propDecidable _) (.inr (2, blS (xbN A) L z.2)) (.inl y.2)) M 3 200 _
      by_cases c1 : z.1 = y.1
      · rw [if_pos (hez.mpr c1), if_pos (show noSt T z.1 y.1 from Or.inl c1)]
        exact bad
      · rw [if_neg (fun z => c1 (hez.mp z)), xgR_v (by rw [hk4]; rfl) l4.2.1, xgR_v (by rw [T4.2.1]; rfl) T4.2.2.1.2.2.1, xaI_u (by rw [T4.2.2.2.1.1]) (by rw [T4.2.2.2.1.1]; exact inb_n (by omega) (by omega)), i_nat (by omega), T4.2.2.2.2.1 z.1 (by omega)]
        by_cases c2 : isSt T z.1 y.1
        · rw [if_pos (show (nearS T z.1 >>> (Int32.ofNat y.1 &&& 31)) &&& 1 = 1 from c2), if_pos (show noSt T z.1 y.1 from Or.inr c2)]
          exact bad
        · rw [if_neg (show ¬ (nearS T z.1 >>> (Int32.ofNat y.1 &&& 31)) &&& 1 = 1 from c2), if_neg (show ¬ noSt T z.1 y.1 from fun z => z.elim c1 c2), xgR_v (by rw [hk4]; rfl) l4.2.1, xrk_u T4.2.1]
          obtain ⟨M6, e6, f6, l6, i31⟩ := lT_leads T4 hS (show z.1 < 7 by omega) (show y.1 < 7 by omega) c1
          rw [e6, xmb_v]
          refine ⟨M6, rfl, (((F14.mono (S' := atN N) (Z' := atN N) (fun a k z => Nat.le_of_eq z.1.symm) (fun _ _ z => False.elim z) (Nat.le_refl _) (Nat.le_refl _)).t0 (f6.mono (fun a k z => by have : N + 1 ≤ a := z; show N ≤ a; omega) (fun _ _ z => False.elim z) (Nat.le_refl _) (Nat.le_refl _)))).mono (fun _ _ z => z) (fun _ _ z => z) (by omega) (by omega), ?_, ?_, l6, i31.trans l4.2.2.2.1, tOK_addS l4.2.2.2.2.1 hS hzP hyP c1, l4.2.2.2.2.2.1, l4.2.2.2.2.2.2.fr (by omega) f6 (fun a k z => by have : N + 1 ≤ a := z; omega) (fun _ _ z => False.elim z)⟩
          · exact k4.fr f6 (fun a k z => by have : N + 1 ≤ a := z; exact ⟨by omega, fun e => by omega⟩) (fun _ _ z => False.elim z)
          · exact (f6.r k4.2.1.1 (fun z => z)).trans l4.2.1
theorem c_clG {f : Nat} {hi : Nat} {T' : Nat → dvT} (h : lC b M A N L T c q) (hf : f = 29 ∨ f = 30) (hhi : hi < 2147483648) (hT : ∀ v, tP (T' v) = tP T ∧ tJ (T' v) = tJ T ∧ tS (T' v) = tS T ∧ tpe (T' v) = tpe T ∧ tjo (T' v) = tjo T ∧ tst (T' v) = tst T) (h29 : ∀ v, tjug (T' v) = if f = 29 then Int32.ofNat v else tjug T) (h30 : ∀ v, tdr (T' v) = if f = 30 then Int32.ofNat v else tdr T) (hO : ∀ v, v ≤ hi → tOK (T' v)) (hR : room M 3 200) : clR b A N L (T' (vaR (nbS (xbN A) L 0 (Int32.ofNat hi) q))) c (poR (nbS (xbN A) L 0 (Int32.ofNat hi) q)) M 3 200 (xgR M 95 N (fun v57 => xrk M N 4 (xth (m_X11_number M N 0 (Int32.ofNat hi)) (fun v58 M59 => xpI M59 f v57 v58 (fun M60 => some (.inl (), M60))) (KX Unit)))) := by
  have hk := h.1.2.1.2.2.2.1
  have hN := h.1.2.1.1
  have hb := h.1.2.1.2.1
  rw [xgR_v (by rw [hk]; rfl) h.2.1, xrk_u hk]
  have q1 := cA_num (lo := 0) (hi := Int32.ofNat hi) h.1 (Nat.le_refl N) (hR.le (by omega) (by omega))
  cases h1 : nbS (xbN A) L 0 (Int32.ofNat hi) q with
  | inr e =>
    rw [h1] at q1
    exact (bdC.th q1).le (by omega) (by omega)
  | inl z =>
    rw [h1] at q1
    obtain ⟨M2, e2, f2, k2, hz, k93⟩ := q1
    obtain ⟨a1, a2, a3, a4⟩ := nbS_le h.1.2.2.2.1 h1
    have hzh := (inV_le (lo := 0) (hi := hi) (by omega) (by omega) hhi a4).2
    have l2 := lC_to h f2 (fun a k _ z => Or.inl ⟨z.1, z.2⟩) (fun _ _ _ z => z) k2
    have T2 := l2.2.2.1
    have hn2 := f2.n
    have hw : dwHasW (dwK M2 (N + 1)) f = true := by
      rw [T2.2.1]
      rcases hf with rfl | rfl <;> rfl
    have f3 := frP M2 (N + 1) f (Int32.ofNat z.1)
    rw [e2, xth_v, xpI_u hw]
    refine ⟨_, rfl, ((f2.mono (S' := atN N) (Z' := atN N) (fun a k z => Nat.le_of_eq z.1.symm) (fun _ _ z => False.elim z) (Nat.le_refl _) (Nat.le_refl _)).t0 (f3.mono (fun a k z => by have : a = N + 1 := z; show N ≤ a; omega) (fun _ _ z => False.elim z) (Nat.le_refl _) (Nat.le_refl _))).mono (fun _ _ z => z) (fun _ _ z => z) (by omega) (by omega), k2.fr f3 (fun a k z => by have : a = N + 1 := z; exact ⟨by omega, fun e => by omega⟩) (fun _ _ z => False.elim z), l2.2.1, lT_set T2 (by omega) (hT z.1) (h29 z.1) (h30 z.1), ?_, hO z.1 hzh, l2.2.2.2.2.2.1, l2.2.2.2.2.2.2.fr (by omega) f3 (fun a k z => by have : a = N + 1 := z; omega) (fun _ _ z => False.elim z)⟩
    rw [di_ne (by omega)]; exact l2.2.2.2.1
end LAND
