/-! the component reads: a word; a sign that must be there; one that opens -/
theorem blS_nb {X : Nat → Nat} {L : Nat} : ∀ n p, L - p = n → ¬ (blS X L p < L ∧ X (blS X L p) = 32) := by
  intro n
  induction n with
  | zero => intro p h; rw [blS_n (by omega)]; omega
  | succ n ih =>
    intro p h
    by_cases hx : X p = 32
    · rw [blS_y (by omega) hx]; exact ih (p + 1) (by omega)
    · rw [blS_n (fun q => hx q.2)]; exact fun z => hx z.2
theorem blS_bl {X : Nat → Nat} {L p : Nat} : blS X L (blS X L p) = blS X L p := blS_n (blS_nb _ p rfl)
/-- where one stands, or what is wrong and where -/
abbrev rsP : Type := Nat ⊕ (Nat × Nat)
/-- a sign c that must be there -/
def sgS (X : Nat → Nat) (L c p : Nat) : rsP := if blS X L p < L ∧ X (blS X L p) = c then .inl (blS X L p + 1) else .inr (1, blS X L p)
def atN (N : Nat) : Nat → Nat → Prop := fun a _ => N ≤ a
section READ
variable {b : Nat} {M : dwSt} {A : dvA} {ρ : Type}
/-- a fault e: a Wrong is thrown; all that changed lies from N on -/
def bdC {α : Type} (N n u : Nat) (M1 : dwSt) (e : Nat × Nat) (z : dwR9 α) : Prop := ∃ M2 q, z = some (.inr (0, q), M2) ∧ fr (atN N) (atN N) n u M1 M2 ∧ (N ≤ q ∧ q < dwN M2) ∧ dwK M2 q = (0, 5) ∧ dwI M2 q 102 = Int32.ofNat e.1 ∧ dwI M2 q 103 = Int32.ofNat e.2
theorem bdC.pre {α : Type} {S Z : Nat → Nat → Prop} {N n u n' u' : Nat} {M1 M2 : dwSt} {e : Nat × Nat} {z : dwR9 α} (h : bdC N n u M2 e z) (f : fr S Z n' u' M1 M2) (hS : ∀ a k, S a k → N ≤ a) (hZ : ∀ a k, Z a k → N ≤ a) : bdC N (n' + n) (u' + u) M1 e z := by
  obtain ⟨M3, q, e1, f1, r⟩ := h
  exact ⟨M3, q, e1, (f.mono (S' := atN N) (Z' := atN N) hS hZ (Nat.le_refl _) (Nat.le_refl _)).trans f1, r⟩
theorem bdC.le {α : Type} {N n u n' u' : Nat} {M1 : dwSt} {e : Nat × Nat} {z : dwR9 α} (h : bdC N n u M1 e z) (hn : n ≤ n') (hu : u ≤ u') : bdC N n' u' M1 e z := by
  obtain ⟨M3, q, e1, f1, r⟩ := h
  exact ⟨M3, q, e1, f1.mono (fun _ _ z => z) (fun _ _ z => z) hn hu, r⟩
theorem bdC.th {α β : Type} {N n u : Nat} {M1 : dwSt} {e : Nat × Nat} {z : dwR9 α} {K : α → dwSt → dwR9 β} (h : bdC N n u M1 e z) : bdC N n u M1 e (xth z K (fun cl q M => some (.inr (cl, q), M))) := by
  obtain ⟨M3, q, e1, r⟩ := h
  exact ⟨M3, q, by rw [e1, xth_x], r⟩
theorem bdC_of {N o q0 : Nat} {M1 : dwSt} {e : Nat × Nat} {z : dwR9 Int32} (hN : N ≤ o) (hM : N ≤ dwN M1) (h : nbC M1 o q0 (.inr e) z) : bdC N 1 8 M1 e z := by
  obtain ⟨M2, q, e1, f, h1, h2, h3, h4, h5⟩ := h
  exact ⟨M2, q, e1, f.mono (fun a k z => by have := z.1; show N ≤ a; omega) (fun _ _ z => False.elim z) (Nat.le_refl _) (Nat.le_refl _), ⟨by omega, h2⟩, h3, h4, h5⟩
/-- a Wrong of kind k at place q made and thrown -/
theorem c_bad {α : Type} {N : Nat} {M1 : dwSt} {k q : Nat} {o f : Nat} (hN : N ≤ dwN M1) (hf : dwHas (dwK M1 o) f = true) (hoN : o < dwN M1) (hq : dwI M1 o f = Int32.ofNat q) (hR : room M1 1 8) : bdC (α := α) N 1 8 M1 (k, q) (xnew M1 5 (fun o9 M10 => xgI M10 f o (fun v11 => xmb (m_X13_init M10 o9 (Int32.ofNat k) v11) (fun _ M13 => xrk0 M13 o9 5 (some (.inr (0, o9), M13)))))) := by
  obtain ⟨M2, e, fr2, h1, h2, h3, h4⟩ := c_mkW (M1 := M1) (k := Int32.ofNat k) (p := Int32.ofNat q)
  refine ⟨M2, dwN M1, ?_, fr2.mono (fun _ _ z => False.elim z) (fun _ _ z => False.elim z) (Nat.le_refl _) (Nat.le_refl _), ⟨hN, h3⟩, h4, h1, h2⟩
  rw [xnew5 hR, xgI_u (by rw [dk_Mk, if_neg (by omega)]; exact hf), di_Mk, if_neg (by omega), hq, e, xmb_v, xrk0_u h4]
theorem c_badw {α : Type} {N o ci L q : Nat} {M1 : dwSt} (hN : N ≤ dwN M1) (hr : rdr b M1 o ci L) (hq : dwI M1 o 92 = Int32.ofNat q) (hR : room M1 1 8) : bdC (α := α) N 1 8 M1 (1, q) (xmb (m_X11_wrong M1 o) (fun v5 M6 => xrk0 M6 v5 5 (some (.inr (0, v5), M6)))) := by
  obtain ⟨M2, e, f, h1, h2, h3, h4⟩ := c_wr hr hq hR
  refine ⟨M2, dwN M1, ?_, f.mono (fun _ _ z => False.elim z) (fun _ _ z => False.elim z) (Nat.le_refl _) (Nat.le_refl _), ⟨hN, h3⟩, h4, h1, h2⟩
  rw [e, xmb_v, xrk0_u h4]
/-- the reader stands at p -/
def cAt (b : Nat) (M : dwSt) (A : dvA) (o ci L p : Nat) : Prop := tpC b M A ∧ rdr b M o ci L ∧ dwI M o 92 = Int32.ofNat p ∧ p ≤ L ∧ L ≤ (aTx A).1
theorem cAt.to {n u o ci L p q : Nat} {S : Nat → Nat → Prop} {M1 : dwSt} (h : cAt b M A o ci L p) (f : fr S nz n u M M1) (hS : ∀ a k, S a k → a = o ∧ k ≠ 91) (hq : dwI M1 o 92 = Int32.ofNat q) (hl : q ≤ L) : cAt b M1 A o ci L q := by
  have hob := h.2.1.2.1
  exact ⟨h.1.fr f (fun k z => by have := (hS _ _ z).1; omega) nz_p, h.2.1.fr f (fun z => (hS _ _ z).2 rfl) (fun z => z), hq, hl, h.2.2.2.2⟩
theorem cAt.fr {S Z : Nat → Nat → Prop} {n u o ci L p : Nat} {M1 : dwSt} (h : cAt b M A o ci L p) (f : fr S Z n u M M1) (hS : ∀ a k, S a k → b + 562 ≤ a ∧ (a = o → k ≠ 91 ∧ k ≠ 92)) (hZ : ∀ a k, Z a k → b + 562 ≤ a ∧ a ≠ o) : cAt b M1 A o ci L p :=
  ⟨h.1.fr f (fun k z => by have := (hS _ _ z).1; omega) (fun a k z => by have := (hZ _ _ z).1; unfold ptr; omega), h.2.1.fr f (fun z => ((hS _ _ z).2 rfl).1 rfl) (fun z => (hZ _ _ z).2 rfl), (f.i h.2.1.1 (fun z => ((hS _ _ z).2 rfl).2 rfl)).trans h.2.2.1, h.2.2.2⟩
theorem cA_sign {o ci L p : Nat} {M1 : dwSt} (h : cAt b M1 A o ci L p) : ∃ M2, m_X11_sign M1 o = some (sgC (xbN A) L (blS (xbN A) L p), M2) ∧ fr (sPo o) nz 0 0 M1 M2 ∧ cAt b M2 A o ci L (blS (xbN A) L p) := by
  obtain ⟨M2, e, f, k⟩ := c_sign h.2.2.2.2 h.2.2.2.1 h.1 h.2.1 h.2.2.1
  exact ⟨M2, e, f, h.to f (fun a k z => ⟨z.1, by have := z.2; omega⟩) k ((blS_le _ p rfl).2 h.2.2.2.1)⟩
theorem sgC_eq {X : Nat → Nat} {L q c : Nat} (hX : q < L → X q < 256) (h0 : 0 < c) (hc : c < 128) : (sgC X L q = Int32.ofNat c) ↔ (q < L ∧ X q = c) := by
  unfold sgC
  by_cases h : q < L
  · rw [if_pos h, b_eq _ (hX h) c hc]; exact ⟨fun e => ⟨h, e⟩, fun e => e.2⟩
  · rw [if_neg h]
    refine ⟨fun e => ?_, fun e => absurd e.1 h⟩
    rw [show (0 : Int32) = Int32.ofNat 0 from rfl, i_inj (by omega) (by omega)] at e
    omega
theorem cAt.lt {o ci L p : Nat} {M1 : dwSt} (h : cAt b M1 A o ci L p) (q : Nat) (hq : q < L) : xbN A q < 256 := (h.1.2.2 q (by have := h.2.2.2.2; omega)).1
/-- a sign that must be there -/
def ndC {α : Type} (b : Nat) (A : dvA) (o ci L N : Nat) (M1 : dwSt) (R : rsP) (z : dwR9 α) (v : α) : Prop := match R with
  | .inl p => ∃ M2, z = some (.inl v, M2) ∧ fr (sPo o) nz 0 0 M1 M2 ∧ cAt b M2 A o ci L p
  | .inr e => bdC N 1 8 M1 e z
theorem cA_need {o ci L p c N : Nat} {M1 : dwSt} (h : cAt b M1 A o ci L p) (h0 : 0 < c) (hc : c < 128) (hN : N ≤ o) (hR : room M1 1 8) : ndC b A o ci L N M1 (sgS (xbN A) L c p) (m_X11_need M1 o (Int32.ofNat c)) () := by
  obtain ⟨M2, e, f, k⟩ := cA_sign h
  have hq := (blS_le (X := xbN A) (L := L) _ p rfl).2 h.2.2.2.1
  have g := rdr_h k.2.1
  have hr1 := h.2.1
  have hs := sgC_eq (X := xbN A) (L := L) (q := blS (xbN A) L p) (c := c) (h.lt _) h0 hc
  unfold sgS
  generalize blS (xbN A) L p = q at *
  unfold m_X11_need
  rw [xrc_r hr1, e, xmb_v]
  by_cases hx : q < L ∧ xbN A q = c
  · rw [if_pos hx, if_pos (hs.mpr hx), xgI_u (g 92 (by omega) (by omega)).1, k.2.2.1, xpI_u (g 92 (by omega) (by omega)).2, i_succ]
    have f2 : fr (sPo o) nz 0 0 M2 (dwPI M2 o 92 (Int32.ofNat (q + 1))) := (fr.refl M2).pI _ (Or.inl ⟨rfl, rfl⟩)
    exact ⟨_, rfl, f.t0 f2, k.to f2 (fun a k z => ⟨z.1, by have := z.2; omega⟩) di_eq (by omega)⟩
  · rw [if_neg hx, if_neg (fun z => hx (hs.mp z)), xrc_r k.2.1]
    have hn := f.n
    have ho := hr1.1
    have := c_badw (α := Unit) (N := N) (by omega) k.2.1 k.2.2.1 ((hR.le (n' := 0 + 1) (u' := 0 + 8) (by omega) (by omega)).fr f)
    exact (this.pre f (fun a k z => by have := z.1; omega) (fun _ _ z => False.elim z)).le (by omega) (by omega)
/-- a number -/
def nuC (b : Nat) (A : dvA) (o ci L N p : Nat) (M1 : dwSt) (R : (Nat × Nat) ⊕ (Nat × Nat)) (z : dwR9 Int32) : Prop := match R with
  | .inl r => ∃ M2, z = some (.inl (Int32.ofNat r.1), M2) ∧ fr (sNo o) nz 0 0 M1 M2 ∧ cAt b M2 A o ci L r.2 ∧ r.1 ≤ 100000 ∧ dwI M2 o 93 = Int32.ofNat (blS (xbN A) L p)
  | .inr e => bdC N 1 8 M1 e z
theorem nbS_le {X : Nat → Nat} {L p : Nat} {lo hi : Int32} (hp : p ≤ L) {r : Nat × Nat} (h : nbS X L lo hi p = .inl r) : r.1 ≤ 100000 ∧ p < r.2 ∧ r.2 ≤ L ∧ inV (Int32.ofNat r.1) lo hi = 1 := by
  obtain ⟨q1, q2⟩ := blS_le (X := X) (L := L) _ p rfl
  have q2 := q2 hp
  unfold nbS at h
  generalize blS X L p = q at *
  by_cases c : q < L ∧ dgN (X q)
  · rw [if_pos c] at h
    by_cases d : inV (Int32.ofNat (nuS X L 0 q).1) lo hi = 1
    · rw [if_pos d] at h
      cases h
      obtain ⟨z1, z2, z3⟩ := nuS_le (X := X) (L := L) _ 0 q rfl (by omega)
      refine ⟨z1, ?_, z3 q2, d⟩
      rw [nuS_y c.1 c.2] at z2 ⊢
      have := (nuS_le (X := X) (L := L) _ (min (10 * 0 + X q - 48) 100000) (q + 1) rfl (Nat.min_le_right _ _)).2.1
      omega
    · rw [if_neg d] at h; cases h
  · rw [if_neg c] at h; cases h
theorem cA_num {o ci L p N : Nat} {lo hi : Int32} {M1 : dwSt} (h : cAt b M1 A o ci L p) (hN : N ≤ o) (hR : room M1 1 8) : nuC b A o ci L N p M1 (nbS (xbN A) L lo hi p) (m_X11_number M1 o lo hi) := by
  have q := c_num (lo := lo) (hi := hi) h.2.2.2.2 h.2.2.2.1 h.1 h.2.1 h.2.2.1 hR
  have ho := h.2.1.1
  cases hx : nbS (xbN A) L lo hi p with
  | inl r =>
    rw [hx] at q
    obtain ⟨M2, e, f, k, k93⟩ := q
    obtain ⟨z1, z2, z3, z4⟩ := nbS_le h.2.2.2.1 hx
    exact ⟨M2, e, f, h.to f (fun a k z => ⟨z.1, by have := z.2; omega⟩) k z3, z1, k93⟩
  | inr e =>
    rw [hx] at q
    exact bdC_of hN (by omega) q
/-- a word as the component reads it -/
theorem cA_word {o ci L p : Nat} {M1 : dwSt} (h : cAt b M1 A o ci L p) (hR : room M1 4 34) : ∃ M2 s, m_X11_word M1 o = some (s, M2) ∧ fr (sPo o) nz 4 34 M1 M2 ∧ cAt b M2 A o ci L (blS (xbN A) L p) ∧ strO b M2 s ((wdS (xbN A) L (blS (xbN A) L p)).take 10) ∧ dwN M1 ≤ s := by
  obtain ⟨M2, e, f, k⟩ := cA_sign h
  have hr1 := h.2.1
  have hR2 : room M2 4 34 := (hR.le (n' := 0 + 4) (u' := 0 + 34) (by omega) (by omega)).fr f
  have hn12 := f.n
  have hn562 := shN k.1.1
  have hsm := wdS_sm (X := xbN A) (L := L) _ (blS (xbN A) L p) rfl
  generalize blS (xbN A) L p = q at *
  unfold m_X11_word
  rw [xrc_r hr1, e, xmb_v, xnew_u (n := 4) (by decide) (hR2.le (by omega) (by omega))]
  have f3 : fr nz nz 1 4 M2 (dwMk M2 (0, 27) 4) := (fr.refl M2).mk (0, 27) 4
  have k3 : dwK (dwMk M2 (0, 27) 4) (dwN M2) = (0, 27) := by rw [dk_Mk, if_pos rfl]
  have i3 : ∀ k, dwI (dwMk M2 (0, 27) 4) (dwN M2) k = 0 := fun k => by rw [di_Mk, if_pos rfl]
  have n3 : dwN (dwMk M2 (0, 27) 4) = dwN M2 + 1 := rfl
  have hR3 : room (dwMk M2 (0, 27) 4) 1 16 := (hR2.le (n' := 1 + 1) (u' := 4 + 16) (by omega) (by omega)).fr f3
  generalize hx : dwN M2 = x at *
  generalize dwMk M2 (0, 27) 4 = M3 at *
  have f6 : fr (atN x) (atN x) 1 16 M3 (dwPI (dwPR (dwMk M3 (2, 16) 16) x 127 (some (x + 1))) x 128 0) := (((fr.refl M3).mk (2, 16) 16).pR (a := x) (k := 127) (some (x + 1)) (Or.inl (Nat.le_refl _))).pI (a := x) (k := 128) 0 (Or.inl (Nat.le_refl _))
  have e6 : m_J8_init M3 x = some ((), dwPI (dwPR (dwMk M3 (2, 16) 16) x 127 (some (x + 1))) x 128 0) := by
    have kk : dwK (dwMk M3 (2, 16) 16) x = (0, 27) := by rw [dk_Mk, if_neg (by omega)]; exact k3
    unfold m_J8_init m_J7_init
    rw [if_neg (by decide)]
    show xmb (xnewA M3 2 (Int32.ofNat 16) _) _ = _
    rw [xnewA_u (by omega) hR3, xpR_u (by rw [kk]; rfl), xpI_u (by rw [dk_PR, kk]; rfl), n3, xmb_v]
  have sb6 : sbO b (dwPI (dwPR (dwMk M3 (2, 16) 16) x 127 (some (x + 1))) x 128 0) x (x + 1) [] := by
    refine ⟨?_, ?_, ?_, di_eq, ?_, ⟨by omega, by omega⟩, ?_, fun i => ?_⟩
    · rw [dk_PI, dk_PR, dk_Mk, if_neg (by omega)]; exact k3
    · rw [dr_PI, dr_PR, if_pos ⟨rfl, rfl⟩]
    · rw [dk_PI, dk_PR, dk_Mk, if_pos n3.symm]
    · rw [di_PI, if_neg (by omega), di_PR, di_Mk, if_neg (by omega)]; exact i3 130
    · rw [dn_PI, dn_PR, dn_Mk, n3]; omega
    · rw [di_PI, if_neg (by omega), di_PR, di_Mk, if_pos n3.symm]; rfl
  have n6 : dwN (dwPI (dwPR (dwMk M3 (2, 16) 16) x 127 (some (x + 1))) x 128 0) = x + 2 := by rw [dn_PI, dn_PR, dn_Mk, n3]
  have hR6 : room (dwPI (dwPR (dwMk M3 (2, 16) 16) x 127 (some (x + 1))) x 128 0) 2 14 := (hR3.le (n' := 1) (u' := 16) (by omega) (by omega)) |> fun _ => ((hR2.le (n' := (1 + 1) + 2) (u' := (4 + 16) + 14) (by omega) (by omega)).fr ((f3.mono (S' := atN x) (Z' := atN x) (fun _ _ z => False.elim z) (fun _ _ z => False.elim z) (Nat.le_refl _) (Nat.le_refl _)).trans f6))
  rw [e6, xmb_v]
  generalize dwPI (dwPR (dwMk M3 (2, 16) 16) x 127 (some (x + 1))) x 128 0 = M6 at *
  have F26 : fr nz nz 2 20 M2 M6 := ((f3.mono (S' := atN x) (Z' := atN x) (fun _ _ z => False.elim z) (fun _ _ z => False.elim z) (Nat.le_refl _) (Nat.le_refl _)).trans f6).old (fun a k ha z => by have : x ≤ a := z; omega) (fun a k ha z => by have : x ≤ a := z; omega)
  have k6 : cAt b M6 A o ci L q := k.fr F26 (fun _ _ z => False.elim z) (fun _ _ z => False.elim z)
  have g6 := rdr_h k6.2.1
  rw [xgI_u (g6 92 (by omega) (by omega)).1, k6.2.2.1, jn_u]
  refine c_wordL (E := fun z => ∃ M2 s, z = some (s, M2) ∧ fr (sPo o) nz 4 34 M1 M2 ∧ cAt b M2 A o ci L q ∧ strO b M2 s ((wdS (xbN A) L q).take 10) ∧ dwN M1 ≤ s) h.2.2.2.2 (L - q) q 1000000 [] M6 rfl (by have := h.1.2.1; have := h.2.2.2.2; omega) k6.2.2.2.1 (by simp) k6.1 k6.2.1 sb6 fun M8 f8 sb8 => ?_
  rw [List.nil_append, List.length_nil, Nat.sub_zero] at sb8
  have n8 := f8.n
  have n8' := f8.nn
  have hob := k6.2.1
  have ho := hr1.1
  have k8 : cAt b M8 A o ci L q := k6.fr f8 (fun a k z => by unfold sXV at z; omega) (fun _ _ z => False.elim z)
  have hR8 : room M8 2 14 := (hR6.le (n' := 0 + 2) (u' := 0 + 14) (by omega) (by omega)).fr f8
  obtain ⟨M9, e9, f9, s9⟩ := c_toS sb8 (List.length_take_le _ _) hR8 (fun c hc => hsm c (List.mem_of_mem_take hc)) (by omega)
  rw [xrk_u sb8.1, e9, xmb_v]
  have F28 : fr nz nz 2 20 M2 M8 := ((F26.mono (S' := sXV x (x + 1)) (Z' := nz) (fun _ _ z => False.elim z) (fun _ _ z => z) (Nat.le_refl _) (Nat.le_refl _)).t0 f8).old (fun a k ha z => by unfold sXV at z; omega) (fun _ _ _ z => z)
  have F29 : fr nz nz 4 34 M2 M9 := F28.trans f9
  refine ⟨M9, dwN M8, rfl, (f.trans (F29.mono (fun _ _ z => False.elim z) (fun _ _ z => z) (Nat.le_refl _) (Nat.le_refl _))).mono (fun _ _ z => z) (fun _ _ z => z) (by omega) (by omega), k8.fr f9 (fun _ _ z => False.elim z) (fun _ _ z => False.elim z), s9, by omega⟩
theorem cA_opens {o ci L p N k d : Nat} {M1 : dwSt} (h : cAt b M1 A o ci L p) (hop : dwI M1 o 94 = Int32.ofNat k) (hk : k ≤ 6) (hd : p + d ≤ L) (hN : N ≤ o) (hR : room M1 1 8) : (k = 6 → bdC N 1 8 M1 (3, p) (m_X11_opens M1 o (Int32.ofNat d))) ∧ (k < 6 → ∃ M2, m_X11_opens M1 o (Int32.ofNat d) = some (.inl (), M2) ∧ fr (fun a f => a = o ∧ (f = 92 ∨ f = 94)) nz 0 0 M1 M2 ∧ cAt b M2 A o ci L (p + d) ∧ dwI M2 o 94 = Int32.ofNat (k + 1)) := by
  have g := rdr_h h.2.1
  have ho := h.2.1.1
  have e6 : (Int32.ofNat k = 6) ↔ k = 6 := by rw [show (6 : Int32) = Int32.ofNat 6 from rfl, i_inj (by omega) (by omega)]
  unfold m_X11_opens
  rw [xgI_u (g 94 (by omega) (by omega)).1, hop]
  constructor
  · intro hk6
    rw [if_pos (e6.mpr hk6)]
    exact c_bad (k := 3) (by omega) (g 92 (by omega) (by omega)).1 ho h.2.2.1 hR
  · intro hk6
    rw [if_neg (fun z => by have := e6.mp z; omega), xgI_u (g 92 (by omega) (by omega)).1, xpI_u (g 92 (by omega) (by omega)).2, xgI_u (by rw [dk_PI]; exact (g 94 (by omega) (by omega)).1), xpI_u (by rw [dk_PI]; exact (g 94 (by omega) (by omega)).2), h.2.2.1, i_add, di_ne (by omega), hop, i_succ]
    have f2 : fr (fun a f => a = o ∧ (f = 92 ∨ f = 94)) nz 0 0 M1 (dwPI (dwPI M1 o 92 (Int32.ofNat (p + d))) o 94 (Int32.ofNat (k + 1))) := ((fr.refl M1).pI _ (Or.inl ⟨rfl, Or.inl rfl⟩)).pI _ (Or.inl ⟨rfl, Or.inr rfl⟩)
    exact ⟨_, rfl, f2, h.to f2 (fun a k z => ⟨z.1, by have := z.2; omega⟩) (by rw [di_ne (by omega), di_eq]) hd, di_eq⟩
end READ
