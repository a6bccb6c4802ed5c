/-! A LAND: the twin begins anew -/
theorem t_laysG {M : dwSt} {src dst N m : Nat} (hd : src + N < dst ∨ dst + N < src) (hN1 : src + N < dwN M) (hN2 : dst + N < dwN M) (hm : m ≤ N) (hN : N ≤ 200) (a1 : dwK M src = (4, N)) (a2 : ∀ i, i < N → dwR M src i = some (src + 1 + i)) (a3 : ∀ i, i < N → dwK M (src + 1 + i) = (1, 2)) (b1 : dwK M dst = (4, N)) (b2 : ∀ i, i < N → dwR M dst i = some (dst + 1 + i)) (b3 : ∀ i, i < N → dwK M (dst + 1 + i) = (1, 2)) : ∃ M2, m_X10_lays M src dst (Int32.ofNat m) = some ((), M2) ∧ fr (fun a _ => dst + 1 ≤ a ∧ a ≤ dst + N) nz 0 0 M M2 ∧ ∀ k i, k < m → i < 2 → dwI M2 (dst + 1 + k) i = dwI M (src + 1 + k) i := by
  have x1 : ∀ M', fr (fun a _ => dst + 1 ≤ a ∧ a ≤ dst + N) nz 0 0 M M' → ∀ i, i < N → ∀ {σ : Type} (K : Nat → Option σ), xaR M' 4 src (Int32.ofNat i) K = K (src + 1 + i) := fun M' f i hi σ K => xaR_v ((f.k (by omega)).trans a1) hi (by omega) ((f.r (by omega) (fun z => z)).trans (a2 i hi)) K
  have x2 : ∀ M', fr (fun a _ => dst + 1 ≤ a ∧ a ≤ dst + N) nz 0 0 M M' → ∀ i, i < N → ∀ {σ : Type} (K : Nat → Option σ), xaR M' 4 dst (Int32.ofNat i) K = K (dst + 1 + i) := fun M' f i hi σ K => xaR_v ((f.k (by omega)).trans b1) hi (by omega) ((f.r (by omega) (fun z => z)).trans (b2 i hi)) K
  simp -implicitDefEqProofs only [m_X10_lays, jn_u]
  refine lpx (E := fun x => ∃ M2, x = some ((), M2) ∧ fr (fun a _ => dst + 1 ≤ a ∧ a ≤ dst + N) nz 0 0 M M2 ∧ ∀ k i, k < m → i < 2 → dwI M2 (dst + 1 + k) i = dwI M (src + 1 + k) i) (fun f i (M' : dwSt) => L_X10_lays_2 src dst (Int32.ofNat m) (fun (M1 : dwSt) => some ((), M1)) f (Int32.ofNat i) M') m (fun j M' => fr (fun a _ => dst + 1 ≤ a ∧ a ≤ dst + N) nz 0 0 M M' ∧ ∀ k i, k < j → i < 2 → dwI M' (dst + 1 + k) i = dwI M (src + 1 + k) i) ?_ ?_ 1000000 0 M (by omega) (by omega) ⟨fr.refl M, fun k i hk => absurd hk (Nat.not_lt_zero k)⟩
  · intro f M' ⟨hf, hr⟩
    refine ⟨M', ?_, hf, hr⟩
    rw [L_X10_lays_2, if_pos (Int32.le_refl _)]
  · intro f j M' hj ⟨hf, hr⟩ hnx
    have h7 := i_geF hj (show m < 2147483648 by omega)
    show ∃ M'', L_X10_lays_2 src dst (Int32.ofNat m) (fun (M1 : dwSt) => some ((), M1)) (f + 1) (Int32.ofNat j) M' = some ((), M'') ∧ _
    rw [L_X10_lays_2, if_neg (of_eq_false h7), jn_u]
    refine lpx (E := fun x => ∃ M2, x = some ((), M2) ∧ fr (fun a _ => dst + 1 ≤ a ∧ a ≤ dst + N) nz 0 0 M M2 ∧ ∀ k i, k < m → i < 2 → dwI M2 (dst + 1 + k) i = dwI M (src + 1 + k) i) (fun f1 i (M1 : dwSt) => L_X10_lays_10 src dst (Int32.ofNat m) (Int32.ofNat j) (fun (M2 : dwSt) => L_X10_lays_2 src dst (Int32.ofNat m) (fun (M1 : dwSt) => some ((), M1)) f (Int32.ofNat j + 1) M2) f1 (Int32.ofNat i) M1) 2 (fun q M1 => fr (fun a _ => dst + 1 ≤ a ∧ a ≤ dst + N) nz 0 0 M M1 ∧ (∀ k i, k < j → i < 2 → dwI M1 (dst + 1 + k) i = dwI M (src + 1 + k) i) ∧ ∀ i, i < q → dwI M1 (dst + 1 + j) i = dwI M (src + 1 + j) i) ?_ ?_ 1000000 0 M' (by omega) (by omega) ⟨hf, hr, fun i hi => absurd hi (Nat.not_lt_zero i)⟩
    · intro f1 M1 ⟨g1, g2, g3⟩
      have kk := (g1.k (show dst + 1 + j < dwN M by omega)).trans (b3 j (by omega))
      show ∃ M'', L_X10_lays_10 src dst (Int32.ofNat m) (Int32.ofNat j) _ (f1 + 1) (Int32.ofNat 2) M1 = some ((), M'') ∧ _
      rw [L_X10_lays_10, x2 M1 g1 j (by omega), xlen_u (by rw [kk]; decide) (by rw [kk]; decide), kk, if_pos (Int32.le_refl _), i_succ]
      refine hnx M1 ⟨g1, fun k i hk hi => ?_⟩
      by_cases e : k = j
      · subst e; exact g3 i hi
      · exact g2 k i (by omega) hi
    · intro f1 q M1 hq ⟨g1, g2, g3⟩ hnx2
      have kk := (g1.k (show dst + 1 + j < dwN M by omega)).trans (b3 j (by omega))
      have kk1 := (g1.k (show src + 1 + j < dwN M by omega)).trans (a3 j (by omega))
      show ∃ M'', L_X10_lays_10 src dst (Int32.ofNat m) (Int32.ofNat j) _ (f1 + 1) (Int32.ofNat q) M1 = some ((), M'') ∧ _
      rw [L_X10_lays_10, x2 M1 g1 j (by omega), xlen_u (by rw [kk]; decide) (by rw [kk]; decide), kk, if_neg (of_eq_false (i_geF hq (by omega))), x2 M1 g1 j (by omega), x1 M1 g1 j (by omega), xaI_u (by rw [kk1]) (by rw [kk1]; exact inb_n (by omega) (by omega)), xsI_u (by rw [kk]) (by rw [kk]; exact inb_n (by omega) (by omega)), i_nat (by omega), i_succ q]
      have es : dwI M1 (src + 1 + j) q = dwI M (src + 1 + j) q := g1.i (by omega) (by omega)
      refine hnx2 _ ⟨g1.pI (a := dst + 1 + j) (k := q) _ (Or.inl ⟨by omega, by omega⟩), fun k i hk hi => ?_, fun i hi => ?_⟩
      · rw [di_ne (by omega)]; exact g2 k i hk hi
      · rw [di_PI]
        by_cases e : i = q
        · rw [if_pos ⟨rfl, e⟩, e, es]
        · rw [if_neg (fun z => e z.2)]; exact g3 i (by omega)
/-- the twin's shape, as far as it is needed to begin -/
def tSh (b : Nat) (M : dwSt) : Prop := b + 561 ≤ dwN M ∧ dwK M (b + 54) = (0, 3) ∧ (dwK M (b + 57) = (1, 5) ∧ dwK M (b + 58) = (1, 5) ∧ dwK M (b + 534) = (1, 79)) ∧ (dwR M (b + 54) 55 = some (b + 57) ∧ dwR M (b + 54) 56 = some (b + 58) ∧ dwR M (b + 54) 57 = some (b + 59) ∧ dwR M (b + 54) 58 = some (b + 67) ∧ dwR M (b + 54) 59 = some (b + 75) ∧ dwR M (b + 54) 60 = some (b + 82) ∧ dwR M (b + 54) 61 = some (b + 89) ∧ dwR M (b + 54) 62 = some (b + 102) ∧ dwR M (b + 54) 73 = some (b + 534)) ∧ (dwK M (b + 59) = (4, 7) ∧ dwK M (b + 67) = (4, 7) ∧ dwK M (b + 75) = (4, 6) ∧ dwK M (b + 82) = (4, 6) ∧ dwK M (b + 89) = (4, 12) ∧ dwK M (b + 102) = (4, 12)) ∧ ((∀ i, i < 7 → dwR M (b + 59) i = some (b + 59 + 1 + i) ∧ dwK M (b + 59 + 1 + i) = (1, 2)) ∧ (∀ i, i < 7 → dwR M (b + 67) i = some (b + 67 + 1 + i) ∧ dwK M (b + 67 + 1 + i) = (1, 2)) ∧ (∀ i, i < 6 → dwR M (b + 75) i = some (b + 75 + 1 + i) ∧ dwK M (b + 75 + 1 + i) = (1, 2)) ∧ (∀ i, i < 6 → dwR M (b + 82) i = some (b + 82 + 1 + i) ∧ dwK M (b + 82 + 1 + i) = (1, 2)) ∧ (∀ i, i < 12 → dwR M (b + 89) i = some (b + 89 + 1 + i) ∧ dwK M (b + 89 + 1 + i) = (1, 2)) ∧ (∀ i, i < 12 → dwR M (b + 102) i = some (b + 102 + 1 + i) ∧ dwK M (b + 102 + 1 + i) = (1, 2)))
theorem tSh_of {b : Nat} {M : dwSt} (h : Sh b M) : tSh b M := ⟨by have := shN h; omega, kd54 h, ⟨kd57 h, kd58 h, kd534 h⟩, ⟨pt54_55 h, pt54_56 h, pt54_57 h, pt54_58 h, pt54_59 h, pt54_60 h, pt54_61 h, pt54_62 h, pt54_73 h⟩, ⟨kd59 h, kd67 h, kd75 h, kd82 h, kd89 h, kd102 h⟩, fun i hi => ⟨pr59 h i hi, kr59 h i hi⟩, fun i hi => ⟨pr67 h i hi, kr67 h i hi⟩, fun i hi => ⟨pr75 h i hi, kr75 h i hi⟩, fun i hi => ⟨pr82 h i hi, kr82 h i hi⟩, fun i hi => ⟨pr89 h i hi, kr89 h i hi⟩, fun i hi => ⟨pr102 h i hi, kr102 h i hi⟩⟩
theorem tSh_fr {S : Nat → Nat → Prop} {b n u : Nat} {M M' : dwSt} (h : tSh b M) (f : fr S nz n u M M') : tSh b M' := by
  obtain ⟨h0, h1, ⟨h2, h3, h4⟩, ⟨r1, r2, r3, r4, r5, r6, r7, r8, r9⟩, ⟨k1, k2, k3, k4, k5, k6⟩, q1, q2, q3, q4, q5, q6⟩ := h
  have hn := f.n
  have hr : ∀ k, dwR M' (b + 54) k = dwR M (b + 54) k := fun k => f.r (by omega) (fun z => z)
  exact ⟨by omega, (f.k (by omega)).trans h1, ⟨(f.k (by omega)).trans h2, (f.k (by omega)).trans h3, (f.k (by omega)).trans h4⟩, ⟨(hr _).trans r1, (hr _).trans r2, (hr _).trans r3, (hr _).trans r4, (hr _).trans r5, (hr _).trans r6, (hr _).trans r7, (hr _).trans r8, (hr _).trans r9⟩, ⟨(f.k (by omega)).trans k1, (f.k (by omega)).trans k2, (f.k (by omega)).trans k3, (f.k (by omega)).trans k4, (f.k (by omega)).trans k5, (f.k (by omega)).trans k6⟩, fun i hi => ⟨(f.r (by omega) (fun z => z)).trans (q1 i hi).1, (f.k (by omega)).trans (q1 i hi).2⟩, fun i hi => ⟨(f.r (by omega) (fun z => z)).trans (q2 i hi).1, (f.k (by omega)).trans (q2 i hi).2⟩, fun i hi => ⟨(f.r (by omega) (fun z => z)).trans (q3 i hi).1, (f.k (by omega)).trans (q3 i hi).2⟩, fun i hi => ⟨(f.r (by omega) (fun z => z)).trans (q4 i hi).1, (f.k (by omega)).trans (q4 i hi).2⟩, fun i hi => ⟨(f.r (by omega) (fun z => z)).trans (q5 i hi).1, (f.k (by omega)).trans (q5 i hi).2⟩, fun i hi => ⟨(f.r (by omega) (fun z => z)).trans (q6 i hi).1, (f.k (by omega)).trans (q6 i hi).2⟩⟩
def sBA (b : Nat) : Nat → Nat → Prop := fun a k => (a = b + 54 ∧ (k = 63 ∨ k = 77 ∨ k = 78 ∨ k = 79 ∨ k = 80)) ∨ a = b + 58 ∨ (b + 68 ≤ a ∧ a ≤ b + 74) ∨ (b + 83 ≤ a ∧ a ≤ b + 88) ∨ (b + 103 ≤ a ∧ a ≤ b + 114) ∨ (a = b + 534 ∧ k < 79)
section LAND
variable {b : Nat} {M : dwSt} {A : dvA} {ρ : Type} {L : Nat} {T : dvT}
theorem t_begA (hs : tSh b M) (h : tRT b M T) (hO : tOK T) : ∃ M2, m_X10_beginsAnew M (b + 54) = some ((), M2) ∧ fr (sBA b) nz 0 0 M M2 ∧ tTold b M2 T ∧ (∀ k, k < 79 → dwI M2 (b + 534) k = begR (tjug T) k) ∧ dwI M2 (b + 54) 63 = 0 ∧ dwI M2 (b + 54) 77 = 0 ∧ dwI M2 (b + 54) 78 = 0 ∧ dwI M2 (b + 54) 79 = 0 ∧ dwI M2 (b + 54) 80 = 0 := by
  have o1 := hO.1
  have o2 := hO.2.1
  have o3 := hO.2.2.1
  have hN := hs.1
  obtain ⟨t0, t1, t2, t3, t4, tp, tj, ts⟩ := h
  unfold m_X10_beginsAnew
  rw [jn_u]
  refine lpx (E := fun x => ∃ M2, x = some ((), M2) ∧ fr (sBA b) nz 0 0 M M2 ∧ tTold b M2 T ∧ (∀ k, k < 79 → dwI M2 (b + 534) k = begR (tjug T) k) ∧ dwI M2 (b + 54) 63 = 0 ∧ dwI M2 (b + 54) 77 = 0 ∧ dwI M2 (b + 54) 78 = 0 ∧ dwI M2 (b + 54) 79 = 0 ∧ dwI M2 (b + 54) 80 = 0) (fun f i (M' : dwSt) => L_X10_beginsAnew_2 (b + 54) _ f (Int32.ofNat i) M') 5 (fun i M' => fr (fun a _ => a = b + 58) nz 0 0 M M' ∧ ∀ k, k < i → dwI M' (b + 58) k = dwI M (b + 57) k) ?_ ?_ 1000000 0 M (by omega) (by omega) ⟨fr.refl M, fun k hk => absurd hk (Nat.not_lt_zero k)⟩
  · intro f M1 ⟨f1, g1⟩
    have s1 := tSh_fr hs f1
    obtain ⟨hN1, k54, ⟨k57, k58, k534⟩, ⟨r55, r56, r57, r58, r59, r60, r61, r62, r73⟩, ⟨c59, c67, c75, c82, c89, c102⟩, q59, q67, q75, q82, q89, q102⟩ := id s1
    have v0 := (g1 0 (by omega)).trans t0
    have v1 := (g1 1 (by omega)).trans t1
    have v2 := (g1 2 (by omega)).trans t2
    have v3 := (g1 3 (by omega)).trans t3
    have v4 := (g1 4 (by omega)).trans t4
    obtain ⟨M2, e2, f2, g2⟩ := t_laysG (M := M1) (src := b + 59) (dst := b + 67) (N := 7) (m := tP T) (by omega) (by omega) (by omega) o1 (by omega) c59 (fun i hi => (q59 i hi).1) (fun i hi => (q59 i hi).2) c67 (fun i hi => (q67 i hi).1) (fun i hi => (q67 i hi).2)
    have s2 := tSh_fr s1 f2
    obtain ⟨hN2, k54', ⟨k57', k58', k534'⟩, ⟨r55', r56', r57', r58', r59', r60', r61', r62', r73'⟩, ⟨c59', c67', c75', c82', c89', c102'⟩, q59', q67', q75', q82', q89', q102'⟩ := id s2
    obtain ⟨M3, e3, f3, g3⟩ := t_laysG (M := M2) (src := b + 75) (dst := b + 82) (N := 6) (m := tJ T) (by omega) (by omega) (by omega) o2 (by omega) c75' (fun i hi => (q75' i hi).1) (fun i hi => (q75' i hi).2) c82' (fun i hi => (q82' i hi).1) (fun i hi => (q82' i hi).2)
    have s3 := tSh_fr s2 f3
    obtain ⟨hN3, k543, ⟨k573, k583, k5343⟩, ⟨r553, r563, r573, r583, r593, r603, r613, r623, r733⟩, ⟨c593, c673, c753, c823, c893, c1023⟩, q593, q673, q753, q823, q893, q1023⟩ := id s3
    obtain ⟨M4, e4, f4, g4⟩ := t_laysG (M := M3) (src := b + 89) (dst := b + 102) (N := 12) (m := tS T) (by omega) (by omega) (by omega) o3 (by omega) c893 (fun i hi => (q893 i hi).1) (fun i hi => (q893 i hi).2) c1023 (fun i hi => (q1023 i hi).1) (fun i hi => (q1023 i hi).2)
    have s4 := tSh_fr s3 f4
    have F14 : fr (fun a _ => a = b + 58 ∨ (b + 68 ≤ a ∧ a ≤ b + 74) ∨ (b + 83 ≤ a ∧ a ≤ b + 88) ∨ (b + 103 ≤ a ∧ a ≤ b + 114)) nz 0 0 M M4 := (((f1.mono (fun a k z => Or.inl z) (fun _ _ z => z) (Nat.le_refl _) (Nat.le_refl _)).t0 (f2.mono (fun a k z => by omega) (fun _ _ z => z) (Nat.le_refl _) (Nat.le_refl _))).t0 (f3.mono (fun a k z => by omega) (fun _ _ z => z) (Nat.le_refl _) (Nat.le_refl _))).t0 (f4.mono (fun a k z => by omega) (fun _ _ z => z) (Nat.le_refl _) (Nat.le_refl _))
    have i58 : ∀ k, k < 5 → dwI M4 (b + 58) k = dwI M (b + 57) k := fun k hk => by
      rw [f4.i (by omega) (by omega), f3.i (by omega) (by omega), f2.i (by omega) (by omega)]; exact g1 k hk
    have told4 : tTold b M4 T := by
      refine ⟨(i58 0 (by omega)).trans t0, (i58 1 (by omega)).trans t1, (i58 2 (by omega)).trans t2, (i58 3 (by omega)).trans t3, (i58 4 (by omega)).trans t4, fun p i hp hi => ?_, fun p i hp hi => ?_, fun p i hp hi => ?_, hO⟩
      · rw [f4.i (by omega) (by omega), f3.i (by omega) (by omega), show b + 68 + p = b + 67 + 1 + p by omega, g2 p i hp hi, show b + 59 + 1 + p = b + 60 + p by omega, f1.i (by omega) (by omega)]; exact tp p i hp hi
      · rw [f4.i (by omega) (by omega), show b + 83 + p = b + 82 + 1 + p by omega, g3 p i hp hi, show b + 75 + 1 + p = b + 76 + p by omega, f2.i (by omega) (by omega), f1.i (by omega) (by omega)]; exact tj p i hp hi
      · rw [show b + 103 + p = b + 102 + 1 + p by omega, g4 p i hp hi, show b + 89 + 1 + p = b + 90 + p by omega, f3.i (by omega) (by omega), f2.i (by omega) (by omega), f1.i (by omega) (by omega)]; exact ts p i hp hi
    have w1 : dwI M2 (b + 58) 1 = Int32.ofNat (tJ T) := (f2.i (by omega) (by omega)).trans v1
    have w2 : dwI M3 (b + 58) 2 = Int32.ofNat (tS T) := (f3.i (by omega) (by omega)).trans ((f2.i (by omega) (by omega)).trans v2)
    show ∃ M2, L_X10_beginsAnew_2 (b + 54) _ (f + 1) (Int32.ofNat 5) M1 = some ((), M2) ∧ _
    rw [L_X10_beginsAnew_2, if_pos (show (5 : Int32) ≤ Int32.ofNat 5 by decide), xgR_v (by rw [k54]; rfl) r57, xgR_v (by rw [k54]; rfl) r58, xgR_v (by rw [k54]; rfl) r56, xaI_u (by rw [k58]) (by rw [k58]; exact inb_n (i := 0) (by omega) (by omega)), show (0 : Int32).toNatClampNeg = 0 from rfl, v0, e2, xmb_v, xgR_v (by rw [k54']; rfl) r59', xgR_v (by rw [k54']; rfl) r60', xgR_v (by rw [k54']; rfl) r56', xaI_u (by rw [k58']) (by rw [k58']; exact inb_n (i := 1) (by omega) (by omega)), show (1 : Int32).toNatClampNeg = 1 from rfl, w1, e3, xmb_v, xgR_v (by rw [k543]; rfl) r613, xgR_v (by rw [k543]; rfl) r623, xgR_v (by rw [k543]; rfl) r563, xaI_u (by rw [k583]) (by rw [k583]; exact inb_n (i := 2) (by omega) (by omega)), show (2 : Int32).toNatClampNeg = 2 from rfl, w2, e4, xmb_v, jn_u]
    refine lpx (E := fun x => ∃ M2, x = some ((), M2) ∧ fr (sBA b) nz 0 0 M M2 ∧ tTold b M2 T ∧ (∀ k, k < 79 → dwI M2 (b + 534) k = begR (tjug T) k) ∧ dwI M2 (b + 54) 63 = 0 ∧ dwI M2 (b + 54) 77 = 0 ∧ dwI M2 (b + 54) 78 = 0 ∧ dwI M2 (b + 54) 79 = 0 ∧ dwI M2 (b + 54) 80 = 0) (fun f i (M' : dwSt) => L_X10_beginsAnew_78 (b + 54) _ f (Int32.ofNat i) M') 79 (fun i M' => fr (fun a k => a = b + 534 ∧ k < 79) nz 0 0 M4 M' ∧ ∀ k, k < i → dwI M' (b + 534) k = 0) ?_ ?_ 1000000 0 M4 (by omega) (by omega) ⟨fr.refl M4, fun k hk => absurd hk (Nat.not_lt_zero k)⟩
    · intro f M5 ⟨f5, g5⟩
      have s5 := tSh_fr s4 f5
      obtain ⟨hN5, k545, ⟨-, k585, k5345⟩, ⟨-, r565, -, -, -, -, -, -, r735⟩, -⟩ := id s5
      have told5 : tTold b M5 T := by
        have hN4 := s4.1
        obtain ⟨u1, u2, u3, u4, u5, u6, u7, u8, u9⟩ := told4
        exact ⟨(f5.i (by omega) (by omega)).trans u1, (f5.i (by omega) (by omega)).trans u2, (f5.i (by omega) (by omega)).trans u3, (f5.i (by omega) (by omega)).trans u4, (f5.i (by omega) (by omega)).trans u5, fun p i hp hi => (f5.i (by omega) (by omega)).trans (u6 p i hp hi), fun p i hp hi => (f5.i (by omega) (by omega)).trans (u7 p i hp hi), fun p i hp hi => (f5.i (by omega) (by omega)).trans (u8 p i hp hi), u9⟩
      have j3 : dwI M5 (b + 58) 3 = tjug T := told5.2.2.2.1
      show ∃ M2, L_X10_beginsAnew_78 (b + 54) _ (f + 1) (Int32.ofNat 79) M5 = some ((), M2) ∧ _
      rw [L_X10_beginsAnew_78, if_pos (show (79 : Int32) ≤ Int32.ofNat 79 by decide), xgR_v (by rw [k545]; rfl) r735, xgR_v (by rw [k545]; rfl) r565, xaI_u (by rw [k585]) (by rw [k585]; exact inb_n (i := 3) (by omega) (by omega)), show (3 : Int32).toNatClampNeg = 3 from rfl, j3, xsI_u (by rw [k5345]) (by rw [k5345]; exact inb_n (i := 77) (by omega) (by omega)), show (77 : Int32).toNatClampNeg = 77 from rfl, xpI_u (by rw [dk_PI, k545]; rfl), xpI_u (by rw [dk_PI, dk_PI, k545]; rfl), xpI_u (by rw [dk_PI, dk_PI, dk_PI, k545]; rfl), xpI_u (by rw [dk_PI, dk_PI, dk_PI, dk_PI, k545]; rfl), xpI_u (by rw [dk_PI, dk_PI, dk_PI, dk_PI, dk_PI, k545]; rfl)]
      have F6 : fr (fun a k => (a = b + 54 ∧ (k = 63 ∨ k = 77 ∨ k = 78 ∨ k = 79 ∨ k = 80)) ∨ (a = b + 534 ∧ k < 79)) nz 0 0 M5 (dwPI (dwPI (dwPI (dwPI (dwPI (dwPI M5 (b + 534) 77 (tjug T)) (b + 54) 63 0) (b + 54) 77 0) (b + 54) 78 0) (b + 54) 79 0) (b + 54) 80 0) := (((((((fr.refl M5).pI _ (Or.inl (Or.inr ⟨rfl, by omega⟩))).pI _ (Or.inl (Or.inl ⟨rfl, by omega⟩))).pI _ (Or.inl (Or.inl ⟨rfl, by omega⟩))).pI _ (Or.inl (Or.inl ⟨rfl, by omega⟩))).pI _ (Or.inl (Or.inl ⟨rfl, by omega⟩))).pI _ (Or.inl (Or.inl ⟨rfl, by omega⟩)))
      refine ⟨_, rfl, ((F14.mono (fun a k z => by unfold sBA; omega) (fun _ _ z => z) (Nat.le_refl _) (Nat.le_refl _)).t0 (f5.mono (fun a k z => by unfold sBA; omega) (fun _ _ z => z) (Nat.le_refl _) (Nat.le_refl _))).t0 (F6.mono (fun a k z => by unfold sBA; omega) (fun _ _ z => z) (Nat.le_refl _) (Nat.le_refl _)), ?_, fun k hk => ?_, ?_, ?_, ?_, ?_, di_eq⟩
      · obtain ⟨u1, u2, u3, u4, u5, u6, u7, u8, u9⟩ := told5
        exact ⟨(F6.i (by omega) (by omega)).trans u1, (F6.i (by omega) (by omega)).trans u2, (F6.i (by omega) (by omega)).trans u3, (F6.i (by omega) (by omega)).trans u4, (F6.i (by omega) (by omega)).trans u5, fun p i hp hi => (F6.i (by omega) (by omega)).trans (u6 p i hp hi), fun p i hp hi => (F6.i (by omega) (by omega)).trans (u7 p i hp hi), fun p i hp hi => (F6.i (by omega) (by omega)).trans (u8 p i hp hi), u9⟩
      · simp (disch := omega) only [di_ne]
        rw [di_PI]
        by_cases e : k = 77
        · rw [if_pos ⟨rfl, e⟩, e]; exact (if_pos rfl).symm
        · rw [if_neg (fun z => e z.2), g5 k hk]; exact (if_neg e).symm
      · simp (disch := omega) only [di_ne, di_eq]
      · simp (disch := omega) only [di_ne, di_eq]
      · simp (disch := omega) only [di_ne, di_eq]
      · simp (disch := omega) only [di_ne, di_eq]
    · intro f i M5 hi ⟨f5, g5⟩ hnx
      have s5 := tSh_fr s4 f5
      obtain ⟨hN5, k545, ⟨-, k585, k5345⟩, ⟨-, r565, -, -, -, -, -, -, r735⟩, -⟩ := id s5
      show ∃ M2, L_X10_beginsAnew_78 (b + 54) _ (f + 1) (Int32.ofNat i) M5 = some ((), M2) ∧ _
      rw [L_X10_beginsAnew_78, if_neg (show ¬ (79 : Int32) ≤ Int32.ofNat i from of_eq_false (i_geF (n := 79) hi (by omega))), xgR_v (by rw [k545]; rfl) r735, xsI_u (by rw [k5345]) (by rw [k5345]; exact inb_n hi (by omega)), i_nat (by omega), i_succ]
      refine hnx _ ⟨f5.pI _ (Or.inl ⟨rfl, hi⟩), fun k hk => ?_⟩
      rw [di_PI]
      by_cases e : k = i
      · rw [if_pos ⟨rfl, e⟩]
      · rw [if_neg (fun z => e z.2)]; exact g5 k (by omega)
  · intro f i M1 hi ⟨f1, g1⟩ hnx
    have s1 := tSh_fr hs f1
    obtain ⟨hN1, k54, ⟨k57, k58, k534⟩, ⟨r55, r56, -⟩, -⟩ := id s1
    show ∃ M2, L_X10_beginsAnew_2 (b + 54) _ (f + 1) (Int32.ofNat i) M1 = some ((), M2) ∧ _
    rw [L_X10_beginsAnew_2, if_neg (show ¬ (5 : Int32) ≤ Int32.ofNat i from of_eq_false (i_geF (n := 5) hi (by omega))), xgR_v (by rw [k54]; rfl) r56, xgR_v (by rw [k54]; rfl) r55, xaI_u (by rw [k57]) (by rw [k57]; exact inb_n hi (by omega)), xsI_u (by rw [k58]) (by rw [k58]; exact inb_n hi (by omega)), i_nat (by omega), i_succ, f1.i (by omega) (by omega)]
    refine hnx _ ⟨f1.pI _ (Or.inl rfl), fun k hk => ?_⟩
    rw [di_PI]
    by_cases e : k = i
    · rw [if_pos ⟨rfl, e⟩, e]
    · rw [if_neg (fun z => e z.2)]; exact g1 k (by omega)
end LAND
