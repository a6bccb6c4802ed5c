/-! A LAND: the component's call -/
def sBg (b : Nat) : Nat → Nat → Prop := fun a k => (a = b ∧ (k = 11 ∨ k = 12 ∨ k = 13 ∨ k = 17)) ∨ a = b + 21 ∨ (b + 23 ≤ a ∧ a ≤ b + 28)
def zBg (b : Nat) : Nat → Nat → Prop := fun a k => a = b ∧ k = 1
section LAND
variable {b : Nat} {w : Nat → Nat} {M : dwSt} {A : dvA} {ρ : Type} {N L : Nat} {T : dvT}
theorem cusF_fr {S Z : Nat → Nat → Prop} {n cn cu : Nat} {M1 : dwSt} (h : cusF M n) (hn : n + 11 ≤ dwN M) (f : fr S Z cn cu M M1) (hS : ∀ i k, i < 11 → ¬ S (n + i) k ∧ ¬ Z (n + i) k) : cusF M1 n := by
  have hk : ∀ i, i < 11 → dwK M1 (n + i) = dwK M (n + i) := fun i hi => f.k (by omega)
  have hi : ∀ i k, i < 11 → dwI M1 (n + i) k = dwI M (n + i) k := fun i k hi => f.i (by omega) (hS i k hi).1
  have hr : ∀ i k, i < 11 → dwR M1 (n + i) k = dwR M (n + i) k := fun i k hi => f.r (by omega) (hS i k hi).2
  obtain ⟨k0, k1, k2, k3, k4, k5, k6, k7, k8, k9, k10, i3, i5, i6, i8, i9, i10, r0, s0, r1, s1, r2, s2, r4, s4, r7, s7⟩ := h
  exact ⟨(hk 0 (by omega)).trans k0, (hk 1 (by omega)).trans k1, (hk 2 (by omega)).trans k2, (hk 3 (by omega)).trans k3, (hk 4 (by omega)).trans k4, (hk 5 (by omega)).trans k5, (hk 6 (by omega)).trans k6, (hk 7 (by omega)).trans k7, (hk 8 (by omega)).trans k8, (hk 9 (by omega)).trans k9, (hk 10 (by omega)).trans k10, (hi 3 _ (by omega)).trans i3, (hi 5 _ (by omega)).trans i5, (hi 6 _ (by omega)).trans i6, (hi 8 _ (by omega)).trans i8, (hi 9 _ (by omega)).trans i9, (hi 10 _ (by omega)).trans i10, (hr 0 _ (by omega)).trans r0, (hr 0 _ (by omega)).trans s0, (hr 1 _ (by omega)).trans r1, (hr 1 _ (by omega)).trans s1, (hr 2 _ (by omega)).trans r2, (hr 2 _ (by omega)).trans s2, (hr 4 _ (by omega)).trans r4, (hr 4 _ (by omega)).trans s4, (hr 7 _ (by omega)).trans r7, (hr 7 _ (by omega)).trans s7⟩
theorem c_begins {d : Nat} (hs : cShp b M (b + 23)) (hb0 : dwK M b = (0, 0)) (r0 : dwR M b 0 = some d) (r3 : dwR M b 3 = some (b + 21)) (k21 : dwK M (b + 21) = (1, 6)) (r5 : dwR M b 5 = some (b + 23)) (kd : dwK M d = (0, 1)) (hd : d < b + 23 ∨ b + 28 < d) (hdN : d < dwN M) (hR : room M 11 16) : ∃ M2, m_X1_begins M b = some ((), M2) ∧ fr (sBg b) (zBg b) 11 16 M M2 ∧ dwR M2 b 1 = some (dwN M) ∧ cusF M2 (dwN M) ∧ dwN M2 = dwN M + 11 ∧ (∀ j, j < 6 → dwI M2 (b + 21) j = -1) ∧ (∀ n, n ≤ 7 → cRow M2 (b + 23) n (begR (dwI M d 29))) ∧ dwI M2 b 11 = 0 ∧ dwI M2 b 12 = 0 ∧ dwI M2 b 13 = 0 ∧ dwI M2 b 17 = 0 := by
  have hbN := hs.1
  have dne : d ≠ b + 21 := kne kd k21 (by omega)
  have dnb : d ≠ b := kne kd hb0 (by omega)
  have f0 := cusM_fr (M := M)
  have c0 := cusM_f (M := M)
  have n0 := cusM_n (M := M)
  unfold m_X1_begins
  rw [c_cus hR, xmb_v, xpR_u (by rw [f0.k (by omega), hb0]; rfl)]
  generalize cusM M = M1 at *
  have kb1 : dwK M1 b = (0, 0) := (f0.k (by omega)).trans hb0
  have F3 : fr (sBg b) (zBg b) 11 16 M (dwPR M1 b 1 (some (dwN M))) := (f0.mono (S' := sBg b) (Z' := zBg b) (fun _ _ z => False.elim z) (fun _ _ z => False.elim z) (Nat.le_refl _) (Nat.le_refl _)).pR _ (Or.inl ⟨rfl, rfl⟩)
  have r1 : dwR (dwPR M1 b 1 (some (dwN M))) b 1 = some (dwN M) := by rw [dr_PR, if_pos ⟨rfl, rfl⟩]
  have c3 : cusF (dwPR M1 b 1 (some (dwN M))) (dwN M) := cusF_fr c0 (by omega) (fr.pR (S := nz) (Z := zBg b) (fr.refl M1) (some (dwN M)) (Or.inl ⟨rfl, rfl⟩)) (fun i k hi => ⟨fun z => z, fun z => by have := z.1; omega⟩)
  have n3 : dwN (dwPR M1 b 1 (some (dwN M))) = dwN M + 11 := n0
  generalize dwPR M1 b 1 (some (dwN M)) = M3 at *
  rw [jn_u]
  refine lpx (E := fun x => ∃ M2, x = some ((), M2) ∧ fr (sBg b) (zBg b) 11 16 M M2 ∧ dwR M2 b 1 = some (dwN M) ∧ cusF M2 (dwN M) ∧ dwN M2 = dwN M + 11 ∧ (∀ j, j < 6 → dwI M2 (b + 21) j = -1) ∧ (∀ n, n ≤ 7 → cRow M2 (b + 23) n (begR (dwI M d 29))) ∧ dwI M2 b 11 = 0 ∧ dwI M2 b 12 = 0 ∧ dwI M2 b 13 = 0 ∧ dwI M2 b 17 = 0) (fun f i (M' : dwSt) => L_X1_begins_9 b _ f (Int32.ofNat i) M') 6 (fun i M' => fr (fun a _ => a = b + 21) nz 0 0 M3 M' ∧ ∀ j, j < i → dwI M' (b + 21) j = -1) ?_ ?_ 1000000 0 M3 (by omega) (by omega) ⟨fr.refl M3, fun j hj => absurd hj (Nat.not_lt_zero j)⟩
  · intro f M4 ⟨f4, g4⟩
    have F4 : fr (sBg b) (zBg b) 11 16 M M4 := F3.t0 (f4.mono (fun a k z => Or.inr (Or.inl z)) (fun _ _ z => False.elim z) (Nat.le_refl _) (Nat.le_refl _))
    have hs4 := hs.fr F4 (fun k z => by have := z.1; omega)
    have kb4 := (F4.k (show b < dwN M by omega)).trans hb0
    have rr : ∀ k, k ≠ 1 → dwR M4 b k = dwR M b k := fun k hk => F4.r (by omega) (fun z => hk z.2)
    have kd4 := (F4.k hdN).trans kd
    have i29 : dwI M4 d 29 = dwI M d 29 := F4.i hdN (by unfold sBg; omega)
    have n4 : dwN M4 = dwN M + 11 := by
      have h1 := f4.n
      have h2 := f4.nn
      omega
    obtain ⟨M5, e5, f5, r5'⟩ := c_beg9 hs4 kb4 ((rr 0 (by omega)).trans r0) kd4 (by omega) (by omega) (by omega)
    rw [i29] at r5'
    show ∃ M2, L_X1_begins_9 b _ (f + 1) (Int32.ofNat 6) M4 = some ((), M2) ∧ _
    have kb5 := (f5.k (show b < dwN M4 by omega)).trans kb4
    rw [L_X1_begins_9, if_pos (show (6 : Int32) ≤ Int32.ofNat 6 by decide), xgR_v (t := b + 23) (by rw [kb4]; rfl) (by exact (rr 5 (by omega)).trans r5), xrk_u hs4.2.1, e5, xmb_v, xpI_u (by rw [kb5]; rfl), xpI_u (by rw [dk_PI, kb5]; rfl), xpI_u (by rw [dk_PI, dk_PI, kb5]; rfl), xpI_u (by rw [dk_PI, dk_PI, dk_PI, kb5]; rfl)]
    have F5 : fr (sBg b) (zBg b) 11 16 M (dwPI (dwPI (dwPI (dwPI M5 b 11 0) b 12 0) b 13 0) b 17 0) := ((((F4.t0 (f5.mono (fun a k z => by unfold sSe at z; exact Or.inr (Or.inr (by omega))) (fun _ _ z => False.elim z) (Nat.le_refl _) (Nat.le_refl _))).pI _ (Or.inl (Or.inl ⟨rfl, by omega⟩))).pI _ (Or.inl (Or.inl ⟨rfl, by omega⟩))).pI _ (Or.inl (Or.inl ⟨rfl, by omega⟩))).pI _ (Or.inl (Or.inl ⟨rfl, by omega⟩))
    have F6 : fr (fun a k => a = b ∨ a = b + 21 ∨ (b + 23 ≤ a ∧ a ≤ b + 28)) nz 0 0 M3 (dwPI (dwPI (dwPI (dwPI M5 b 11 0) b 12 0) b 13 0) b 17 0) := ((((f4.mono (S' := fun a k => a = b ∨ a = b + 21 ∨ (b + 23 ≤ a ∧ a ≤ b + 28)) (Z' := nz) (fun a k z => Or.inr (Or.inl z)) (fun _ _ z => z) (Nat.le_refl _) (Nat.le_refl _)).t0 (f5.mono (fun a k z => by unfold sSe at z; exact Or.inr (Or.inr (by omega))) (fun _ _ z => z) (Nat.le_refl _) (Nat.le_refl _))).pI _ (Or.inl (Or.inl rfl))).pI _ (Or.inl (Or.inl rfl))).pI _ (Or.inl (Or.inl rfl)) |>.pI _ (Or.inl (Or.inl rfl))
    have n5 : dwN M5 = dwN M + 11 := by
      have h1 := f5.n
      have h2 := f5.nn
      omega
    refine ⟨_, rfl, F5, (F6.r (by omega) (fun z => z)).trans r1, cusF_fr c3 (by omega) F6 (fun i k hi => ⟨by omega, fun z => z⟩), n5, fun j hj => ?_, fun n hn => ?_, ?_, ?_, ?_, di_eq⟩
    · simp (disch := omega) only [di_ne]
      rw [f5.i (by omega) (by unfold sSe; omega)]; exact g4 j hj
    · exact (r5' n hn).fr (by have := (hs4.fr f5 (fun _ z => z)).1; exact this) ((((frP M5 b 11 0).t0 (frP _ b 12 0)).t0 (frP _ b 13 0)).t0 (frP _ b 17 0)) (fun i k hi => by omega)
    · simp (disch := omega) only [di_ne, di_eq]
    · simp (disch := omega) only [di_ne, di_eq]
    · simp (disch := omega) only [di_ne, di_eq]
  · intro f i M4 hi ⟨f4, g4⟩ hnx
    have kb4 := (f4.k (show b < dwN M3 by omega)).trans ((F3.k (show b < dwN M by omega)).trans hb0)
    have k214 := (f4.k (show b + 21 < dwN M3 by omega)).trans ((F3.k (show b + 21 < dwN M by omega)).trans k21)
    have r34 : dwR M4 b 3 = some (b + 21) := (f4.r (show b < dwN M3 by omega) (fun z => z)).trans ((F3.r (show b < dwN M by omega) (fun z => by have := z.2; omega)).trans r3)
    show ∃ M2, L_X1_begins_9 b _ (f + 1) (Int32.ofNat i) M4 = some ((), M2) ∧ _
    rw [L_X1_begins_9, if_neg (show ¬ (6 : Int32) ≤ Int32.ofNat i from of_eq_false (i_geF (n := 6) hi (by omega))), xgR_v (by rw [kb4]; rfl) r34, xsI_u (by rw [k214]) (by rw [k214]; exact inb_n hi (by omega)), i_nat (by omega), i_succ]
    refine hnx _ ⟨f4.pI _ (Or.inl rfl), fun j hj => ?_⟩
    rw [di_PI]
    by_cases e : j = i
    · rw [if_pos ⟨rfl, e⟩]
    · rw [if_neg (fun z => e z.2)]; exact g4 j (by omega)
/-- what was read is told -/
theorem lT_told (h : lT b M N T) (hw : ∀ a, N ≤ a → a < dwN M → w a = 1) : cToldAt b w M (N + 1) T := by
  obtain ⟨⟨hb, hN⟩, k1, ⟨r1, r2, r3, r4, r5⟩, ⟨k6, k7, k8⟩, i6, i7, ⟨j1, j2, j3⟩, e1, c1, g1, e2, c2, g2, w1, p1, w2, p2, q1, q2, q3⟩ := h
  have ow : ∀ a, N ≤ a → a < dwN M → own b w M 1 a := fun a h1 h2 => ⟨hw a h1 h2, by unfold imf; omega, h2⟩
  obtain ⟨a1, a2, a3, a4, a5, a6, a7, a8⟩ := w1
  obtain ⟨b1, b2, b3, b4, b5, b6, b7, b8⟩ := w2
  refine ⟨ow _ (by omega) (by omega), k1, ⟨N + 2, r1, ow _ (by omega) (by omega), a1, a2, e1, c1, ow _ (by omega) a7.2, a3, a4, a5, a6, fun p hp => ?_⟩, ⟨N + 4, r2, ow _ (by omega) (by omega), b1, b2, e2, c2, ow _ (by omega) b7.2, b3, b4, b5, b6, fun p hp => ?_⟩, ⟨N + 6, ow _ (by omega) (by omega), r3, k6, i6⟩, ⟨N + 7, ow _ (by omega) (by omega), r4, k7, fun e he => (i7 e he).1⟩, ⟨N + 8, ow _ (by omega) (by omega), r5, k8, fun e he => (i7 e he).2⟩, j1, j2, j3⟩
  · obtain ⟨z1, z2, z3, z4⟩ := p1 p hp
    exact ⟨g1 p, ow _ z1 (a8 p hp).2.1, (a8 p hp).1, z2, z3, z4⟩
  · obtain ⟨z1, z2, z3, z4⟩ := p2 p hp
    exact ⟨g2 p, ow _ z1 (b8 p hp).2.1, (b8 p hp).1, z2, z3, z4⟩
end LAND
