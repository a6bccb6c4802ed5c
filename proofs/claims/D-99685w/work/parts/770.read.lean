/-! BEGINS, the component's -/
def begR (j : Int32) : Nat → Int32 := fun k => if k = 77 then j else 0
theorem ops3 (u v : Int32) : opS 3 u v = u - v := by unfold opS; rw [if_neg (by decide), if_pos rfl]
theorem ops4 (u v : Int32) : opS 4 u v = u * v := by unfold opS; rw [if_neg (by decide), if_neg (by decide), if_pos rfl]
theorem rowD_beg {T : dvT} {r : Nat → Int32} (hT : tOK T) (e : ∀ k, k < 79 → r k = begR (tjug T) k) : rowD T r := by
  have h0 : ∀ k, k < 79 → k ≠ 77 → r k = 0 := fun k hk hne => by rw [e k hk]; exact if_neg hne
  have h77 : r 77 = tjug T := by rw [e 77 (by omega)]; exact if_pos rfl
  have hP := hT.1
  obtain ⟨-, -, -, -, -, -, -, -, j1, j2⟩ := hT
  refine ⟨⟨fun p hp => ⟨Or.inl (h0 _ (by omega) (by omega)), ?_, ?_⟩, by rw [h77]; exact j1, ?_⟩, 0, by omega, h0 78 (by omega) (by omega)⟩
  · rw [h0 _ (by omega) (by omega)]; decide
  · rw [h0 _ (by omega) (by omega)]; decide
  · rw [h77]; exact Int32.le_trans j2 (by decide)
section BEG
variable {b n : Nat} {w : Nat → Nat} {M : dwSt} {A : dvA} {ρ : Type}
theorem tm_fact {f : Nat → Int32} {d a k : Nat} (h : own b w M 2 a) (hk : dwK M a = (0, 12)) (h10 : k < 10) (hi : dwI M a 114 = Int32.ofNat k) : tma b w M f (d + 1) a (f k) := ⟨h, Or.inr (Or.inl ⟨hk, k, h10, hi, rfl⟩)⟩
theorem tm_plain {f : Nat → Int32} {d a : Nat} {v : Int32} (h : own b w M 2 a) (hk : dwK M a = (0, 14)) (hi : dwI M a 115 = v) : tma b w M f (d + 1) a v := ⟨h, Or.inl ⟨hk, hi.symm⟩⟩
theorem tm_op {f : Nat → Int32} {d a x y ci : Nat} {o v1 v2 : Int32} (h : own b w M 2 a) (ho : opC o ci) (hk : dwK M a = (0, ci)) (hx : dwR M a 112 = some x) (hy : dwR M a 113 = some y) (t1 : tma b w M f d x v1) (t2 : tma b w M f d y v2) : tma b w M f (d + 1) a (opS o v1 v2) := ⟨h, Or.inr (Or.inr ⟨o, ci, x, y, v1, v2, ho, hk, hx, hy, t1, t2, rfl⟩)⟩
theorem cus_tma (h : cusF M n) (hw : ∀ i, i < 11 → own b w M 2 (n + i)) (f : Nat → Int32) : tma b w M f 5 n (cusV f) := by
  obtain ⟨k0, k1, k2, k3, k4, k5, k6, k7, k8, k9, k10, i3, i5, i6, i8, i9, i10, r0, s0, r1, s1, r2, s2, r4, s4, r7, s7⟩ := h
  have e : cusV f = opS 3 (opS 3 (opS 3 (f 0) (opS 4 (f 1) 2)) (opS 4 (f 2) 3)) (f 5) := by
    rw [ops3, ops3, ops3, ops4, ops4, Int32.mul_comm (f 1), Int32.mul_comm (f 2)]; rfl
  rw [e]
  have c3 : opC 3 11 := Or.inr (Or.inl ⟨rfl, rfl⟩)
  have c4 : opC 4 13 := Or.inr (Or.inr (Or.inl ⟨rfl, rfl⟩))
  refine tm_op (hw 0 (by omega)) c3 k0 r0 s0 (tm_op (hw 1 (by omega)) c3 k1 r1 s1 (tm_op (hw 2 (by omega)) c3 k2 r2 s2 ?_ (tm_op (hw 4 (by omega)) c4 k4 r4 s4 ?_ ?_)) (tm_op (hw 7 (by omega)) c4 k7 r7 s7 ?_ ?_)) ?_
  · exact tm_fact (k := 0) (hw 3 (by omega)) k3 (by omega) i3
  · exact tm_fact (k := 1) (hw 5 (by omega)) k5 (by omega) i5
  · exact tm_plain (hw 6 (by omega)) k6 i6
  · exact tm_fact (k := 2) (hw 8 (by omega)) k8 (by omega) i8
  · exact tm_plain (hw 9 (by omega)) k9 i9
  · exact tm_fact (k := 5) (hw 10 (by omega)) k10 (by omega) i10
theorem cus_ext : lext cusV := fun f g h => by unfold cusV; rw [h 0 (by omega), h 1 (by omega), h 2 (by omega), h 5 (by omega)]
/-- a season begins -/
theorem c_beg9 {s d : Nat} (hs : cShp b M s) (hb0 : dwK M b = (0, 0)) (r0 : dwR M b 0 = some d) (kd : dwK M d = (0, 1)) (hd : d < s ∨ s + 5 < d) (hdN : d < dwN M) (hbN : b < dwN M) : ∃ M2, m_X9_begins M s = some (s, M2) ∧ fr (sSe s) nz 0 0 M M2 ∧ ∀ n, n ≤ 7 → cRow M2 s n (begR (dwI M d 29)) := by
  obtain ⟨a0, a1, a43, -, -, -, -, -, a2, a3, a4, a5, a6⟩ := id hs
  have inS : ∀ i k, i ≤ 5 → sSe s (s + i) k ∨ dwN M ≤ s + i := fun i k hi => Or.inl (by unfold sSe; omega)
  unfold m_X9_begins
  rw [jn_u]
  refine lpx (E := fun x => ∃ M2, x = some (s, M2) ∧ fr (sSe s) nz 0 0 M M2 ∧ ∀ n, n ≤ 7 → cRow M2 s n (begR (dwI M d 29))) (fun f i (M' : dwSt) => L_X9_begins_2 s _ f (Int32.ofNat i) M') 7 (fun i M' => fr (sSe s) nz 0 0 M M' ∧ ∀ p, p < i → dwI M' (s + 1) p = 0 ∧ dwI M' (s + 2) p = 0 ∧ dwI M' (s + 3) p = 0 ∧ dwI M' (s + 4) p = 0) ?_ ?_ 1000000 0 M (by omega) (by omega) ⟨fr.refl M, fun p hp => absurd hp (Nat.not_lt_zero p)⟩
  · intro f M' ⟨hf, hr⟩
    show ∃ M2, L_X9_begins_2 s _ (f + 1) (Int32.ofNat 7) M' = some (s, M2) ∧ _
    rw [L_X9_begins_2, if_pos (show (7 : Int32) ≤ Int32.ofNat 7 by decide), jn_u]
    refine lpx (E := fun x => ∃ M2, x = some (s, M2) ∧ fr (sSe s) nz 0 0 M M2 ∧ ∀ n, n ≤ 7 → cRow M2 s n (begR (dwI M d 29))) (fun f i (M' : dwSt) => L_X9_begins_44 s _ f (Int32.ofNat i) M') 42 (fun i M'' => fr (sSe s) nz 0 0 M M'' ∧ (∀ p, p < 7 → dwI M'' (s + 1) p = 0 ∧ dwI M'' (s + 2) p = 0 ∧ dwI M'' (s + 3) p = 0 ∧ dwI M'' (s + 4) p = 0) ∧ ∀ k, k < i → dwI M'' (s + 5) k = 0) ?_ ?_ 1000000 0 M' (by omega) (by omega) ⟨hf, hr, fun p hp => absurd hp (Nat.not_lt_zero p)⟩
    · intro f M1 ⟨g1, g2, g3⟩
      have h1 := hs.fr g1 (fun _ z => z)
      have kb : dwK M1 b = (0, 0) := (g1.k hbN).trans hb0
      have rb : dwR M1 b 0 = some d := (g1.r hbN (fun z => z)).trans r0
      have kd1 : dwK M1 d = (0, 1) := (g1.k hdN).trans kd
      have id1 : dwI M1 d 29 = dwI M d 29 := g1.i hdN (by unfold sSe; omega)
      have hsb : s ≠ b := kne a1 hb0 (by omega)
      show ∃ M2, L_X9_begins_44 s _ (f + 1) (Int32.ofNat 42) M1 = some (s, M2) ∧ _
      have ks := h1.2.1
      rw [L_X9_begins_44, if_pos (show (42 : Int32) ≤ Int32.ofNat 42 by decide), xpI_u (by rw [ks]; rfl), xgR_v (t := b) (by rw [dk_PI, ks]; rfl) (by exact h1.2.2.1), xgR_v (t := d) (by rw [dk_PI, kb]; rfl) (by exact rb), xgI_u (by rw [dk_PI, kd1]; rfl), di_ne (Or.inl (kne kd1 ks (by omega))), id1, xpI_u (by rw [dk_PI, ks]; rfl), xpI_u (by rw [dk_PI, dk_PI, ks]; rfl)]
      have F : fr (sSe s) nz 0 0 M (dwPI (dwPI (dwPI M1 s 37 0) s 38 (dwI M d 29)) s 39 0) := (((g1.pI _ (inS 0 _ (by omega))).pI _ (inS 0 _ (by omega))).pI _ (inS 0 _ (by omega)))
      refine ⟨_, rfl, F, fun n hn => ⟨fun p hp => ?_, fun p hp => ?_, fun p hp => ?_, fun p hp => ?_, fun k hk => ?_, ?_, ?_, ?_⟩⟩
      · simp (disch := omega) only [di_ne]; rw [(g2 p hp).1]; exact (if_neg (by omega)).symm
      · simp (disch := omega) only [di_ne]; rw [(g2 p hp).2.1]; exact (if_neg (by omega)).symm
      · simp (disch := omega) only [di_ne]; rw [(g2 p hp).2.2.1]; exact (if_neg (by omega)).symm
      · simp (disch := omega) only [di_ne]; rw [(g2 p hp).2.2.2]; exact (if_neg (by omega)).symm
      · simp (disch := omega) only [di_ne]; rw [g3 k hk]; exact (if_neg (by omega)).symm
      · simp (disch := omega) only [di_ne, di_eq]; exact (who_z fun q hq => if_neg (by omega)).symm
      · simp (disch := omega) only [di_ne, di_eq]; exact (if_pos rfl).symm
      · rw [di_eq]; exact (if_neg (by omega)).symm
    · intro f i M1 hi ⟨g1, g2, g3⟩ hnx
      have h1 := hs.fr g1 (fun _ z => z)
      have k5 := h1.2.2.2.2.2.2.2.2.2.2.2.2
      show ∃ M2, L_X9_begins_44 s _ (f + 1) (Int32.ofNat i) M1 = some (s, M2) ∧ _
      rw [L_X9_begins_44, if_neg (show ¬ (42 : Int32) ≤ Int32.ofNat i from of_eq_false (i_geF (n := 42) hi (by omega))), (h1.g).2.2.2.2.2, xsI_u (by rw [k5]) (by rw [k5]; exact inb_n hi (by omega)), i_nat (by omega), i_succ]
      refine hnx _ ⟨g1.pI _ (inS 5 _ (by omega)), fun p hp => ?_, fun k hk => ?_⟩
      · rw [di_ne (by omega), di_ne (by omega), di_ne (by omega), di_ne (by omega)]; exact g2 p hp
      · rw [di_PI]
        by_cases e : k = i
        · rw [if_pos ⟨rfl, e⟩]
        · rw [if_neg (fun z => e z.2)]; exact g3 k (by omega)
  · intro f i M' hi ⟨hf, hr⟩ hnx
    have h1 := hs.fr hf (fun _ z => z)
    obtain ⟨-, -, -, -, -, -, -, -, k1, k2, k3, k4, -⟩ := id h1
    have G1 := fun M' z1 z2 => (@fun {ρ} K => (h1.gg M' z1 z2).1 (ρ := ρ) K : ∀ {ρ : Type} (K : Nat → Option ρ), xgR M' 32 s K = K (s + 1))
    have G2 := fun M' z1 z2 => (@fun {ρ} K => (h1.gg M' z1 z2).2.1 (ρ := ρ) K : ∀ {ρ : Type} (K : Nat → Option ρ), xgR M' 33 s K = K (s + 2))
    have G3 := fun M' z1 z2 => (@fun {ρ} K => (h1.gg M' z1 z2).2.2.1 (ρ := ρ) K : ∀ {ρ : Type} (K : Nat → Option ρ), xgR M' 34 s K = K (s + 3))
    have G4 := fun M' z1 z2 => (@fun {ρ} K => (h1.gg M' z1 z2).2.2.2.1 (ρ := ρ) K : ∀ {ρ : Type} (K : Nat → Option ρ), xgR M' 35 s K = K (s + 4))
    have h7 := i_geF (n := 7) hi (by omega)
    show ∃ M2, L_X9_begins_2 s _ (f + 1) (Int32.ofNat i) M' = some (s, M2) ∧ _
    rw [L_X9_begins_2, if_neg (show ¬ (7 : Int32) ≤ Int32.ofNat i from of_eq_false h7)]
    simp only [↓xgI_u, ↓xpI_u, ↓xaI_u, ↓xsI_u, ↓xrk_u, ↓xrk0_u, ↓xob_v, ↓xmb_v, ↓xth_v, ↓xth_x, ↓jn_u, ↓xlen_u, ↓xaL_u, ↓xsL_u, ↓xbl_0, ↓xbl_1, eq_self, inb_n, inb_d, Sh_PI, Sh_PL, dk_PI, dk_PL, dr_PI, dr_PL, ↓reduceIte, Int32.reduceLE, Int32.reduceLT, Int32.reduceToNatClampNeg, Nat.reduceLT, Nat.reduceLeDiff, Nat.reduceEqDiff, Nat.reduceAdd, Nat.reduceMul, G1, G2, G3, G4, k1, k2, k3, k4, hi, i_nat (show i < 2147483648 by omega), i_succ]
    refine hnx _ ⟨(((hf.pI _ (inS 1 _ (by omega))).pI _ (inS 2 _ (by omega))).pI _ (inS 3 _ (by omega))).pI _ (inS 4 _ (by omega)), fun p hp => ?_⟩
    by_cases e : p = i
    · subst e
      refine ⟨?_, ?_, ?_, ?_⟩ <;> simp (disch := omega) only [di_ne, di_eq]
    · simp (disch := omega) only [di_ne]; exact hr p (by omega)
end BEG
