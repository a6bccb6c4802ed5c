/-! a season kept: made where there is none, then become another -/
def st (M : dwSt) (o f m : Nat) : dwSt := dwPR (dwMk M (1, m) m) o f (some (dwN M))
section ST
variable {ρ : Type} {S Z : Nat → Nat → Prop} {M M0 : dwSt} {a o f m n u k : Nat}
theorem dn_st : dwN (st M o f m) = dwN M + 1 := rfl
theorem st_k (h : a < dwN M) : dwK (st M o f m) a = dwK M a := by
  unfold st; rw [dk_PR, dk_Mk, if_neg (by omega)]
theorem st_kn : dwK (st M o f m) (dwN M) = (1, m) := by
  unfold st; rw [dk_PR, dk_Mk, if_pos rfl]
theorem st_r (h : a < dwN M) (hk : ¬ (a = o ∧ k = f)) : dwR (st M o f m) a k = dwR M a k := by
  unfold st; rw [dr_PR, if_neg hk, dr_Mk, if_neg (by omega)]
theorem st_rn : dwR (st M o f m) o f = some (dwN M) := by
  unfold st; rw [dr_PR, if_pos ⟨rfl, rfl⟩]
theorem st_i (h : a < dwN M) : dwI (st M o f m) a = dwI M a := by
  unfold st; rw [di_PR, di_Mk, if_neg (by omega)]
theorem st_in : dwI (st M o f m) (dwN M) = fun _ => 0 := by
  unfold st; rw [di_PR, di_Mk, if_pos rfl]
theorem st_fr (h : fr S Z n u M0 M) (ho : dwN M0 ≤ o) : fr S Z (n + 1) (u + m) M0 (st M o f m) := (h.mk (1, m) m).pR _ (Or.inr ho)
theorem xnewA_st {K : dwSt → Option ρ} (hm : m ≤ 1000) (hR : room M 1 m) (hk : dwK M o = (0, 2)) (ho : o < dwN M) (hf : dwHasW (0, 2) f = true) : xnewA M 1 (Int32.ofNat m) (fun a M3 => xpR M3 f o a K) = K (st M o f m) := by
  unfold xnewA
  unfold room at hR
  rw [if_pos ⟨by rw [i_toInt (by omega)]; omega, by rw [i_toInt (by omega)]; omega, by omega, by rw [i_nat (by omega)]; omega⟩, i_nat (by omega)]
  exact xpR_u (by rw [dk_Mk, if_neg (by omega), hk]; exact hf)
end ST
def seaO (M : dwSt) (b : Nat) : dwSt := dwPR (dwMk M (0, 2) 12) (dwN M) 43 (some b)
def seaM (M : dwSt) (b : Nat) : dwSt := st (st (st (st (st (seaO M b) (dwN M) 32 7) (dwN M) 33 7) (dwN M) 34 7) (dwN M) 35 7) (dwN M) 36 42
theorem fs2 : (dwFs 2).length = 12 := by decide
theorem xnew_sea {ρ : Type} {M : dwSt} {K : Nat → dwSt → Option ρ} (hR : room M 6 82) : xnew M 2 K = K (dwN M) (dwMk M (0, 2) 12) := by
  unfold xnew
  unfold room at hR
  rw [fs2, if_pos ⟨by omega, by omega⟩]
theorem c_seaInit {b : Nat} {M : dwSt} (hR : room M 6 82) : m_X9_init (dwMk M (0, 2) 12) (dwN M) b = some ((), seaM M b) := by
  have q0 : dwN (seaO M b) = dwN M + 1 := rfl
  have u0 : dwU (seaO M b) = dwU M + 12 := rfl
  have c0 : dwC (seaO M b) = dwC M := rfl
  have k0 : dwK (seaO M b) (dwN M) = (0, 2) := by unfold seaO; rw [dk_PR, dk_Mk, if_pos rfl]
  unfold room at hR
  unfold m_X9_init
  rw [xpR_u (by rw [dk_Mk, if_pos rfl]; rfl)]
  show xnewA (seaO M b) 1 (Int32.ofNat 7) _ = _
  rw [xnewA_st (by omega) ⟨by omega, by omega⟩ k0 (by omega) rfl]
  have k1 : dwK (st (seaO M b) (dwN M) 32 7) (dwN M) = (0, 2) := (st_k (by omega)).trans k0
  have q1 : dwN (st (seaO M b) (dwN M) 32 7) = dwN M + 2 := rfl
  have u1 : dwU (st (seaO M b) (dwN M) 32 7) = dwU M + 19 := rfl
  have c1 : dwC (st (seaO M b) (dwN M) 32 7) = dwC M := rfl
  unfold seaM
  generalize st (seaO M b) (dwN M) 32 7 = M1 at *
  show xnewA M1 1 (Int32.ofNat 7) _ = _
  rw [xnewA_st (by omega) ⟨by omega, by omega⟩ k1 (by omega) rfl]
  have k2 : dwK (st M1 (dwN M) 33 7) (dwN M) = (0, 2) := (st_k (by omega)).trans k1
  have q2 : dwN (st M1 (dwN M) 33 7) = dwN M1 + 1 := rfl
  have u2 : dwU (st M1 (dwN M) 33 7) = dwU M1 + 7 := rfl
  have c2 : dwC (st M1 (dwN M) 33 7) = dwC M1 := rfl
  generalize st M1 (dwN M) 33 7 = M2 at *
  show xnewA M2 1 (Int32.ofNat 7) _ = _
  rw [xnewA_st (by omega) ⟨by omega, by omega⟩ k2 (by omega) rfl]
  have k3 : dwK (st M2 (dwN M) 34 7) (dwN M) = (0, 2) := (st_k (by omega)).trans k2
  have q3 : dwN (st M2 (dwN M) 34 7) = dwN M2 + 1 := rfl
  have u3 : dwU (st M2 (dwN M) 34 7) = dwU M2 + 7 := rfl
  have c3 : dwC (st M2 (dwN M) 34 7) = dwC M2 := rfl
  generalize st M2 (dwN M) 34 7 = M3 at *
  show xnewA M3 1 (Int32.ofNat 7) _ = _
  rw [xnewA_st (by omega) ⟨by omega, by omega⟩ k3 (by omega) rfl]
  have k4 : dwK (st M3 (dwN M) 35 7) (dwN M) = (0, 2) := (st_k (by omega)).trans k3
  have q4 : dwN (st M3 (dwN M) 35 7) = dwN M3 + 1 := rfl
  have u4 : dwU (st M3 (dwN M) 35 7) = dwU M3 + 7 := rfl
  have c4 : dwC (st M3 (dwN M) 35 7) = dwC M3 := rfl
  generalize st M3 (dwN M) 35 7 = M4 at *
  show xnewA M4 1 (Int32.ofNat 42) _ = _
  rw [xnewA_st (by omega) ⟨by omega, by omega⟩ k4 (by omega) rfl]
theorem seaM_s {b : Nat} {M : dwSt} : dwN (seaM M b) = dwN M + 6 ∧ fr nz nz 6 82 M (seaM M b) ∧ cShp b (seaM M b) (dwN M) ∧ ∀ i, i < 6 → dwI (seaM M b) (dwN M + i) = fun _ => 0 := by
  have q0 : dwN (seaO M b) = dwN M + 1 := rfl
  have k0 : dwK (seaO M b) (dwN M) = (0, 2) := by unfold seaO; rw [dk_PR, dk_Mk, if_pos rfl]
  have r0 : dwR (seaO M b) (dwN M) 43 = some b := by unfold seaO; rw [dr_PR, if_pos ⟨rfl, rfl⟩]
  have i0 : dwI (seaO M b) (dwN M) = fun _ => 0 := by unfold seaO; rw [di_PR, di_Mk, if_pos rfl]
  have f0 : fr nz nz 1 12 M (seaO M b) := ((fr.refl M).mk (0, 2) 12).pR _ (Or.inr (Nat.le_refl _))
  have q : dwN (seaM M b) = dwN M + 6 := rfl
  have n1 : dwN (st (seaO M b) (dwN M) 32 7) = dwN M + 2 := rfl
  have n2 : dwN (st (st (seaO M b) (dwN M) 32 7) (dwN M) 33 7) = dwN M + 3 := rfl
  have n3 : dwN (st (st (st (seaO M b) (dwN M) 32 7) (dwN M) 33 7) (dwN M) 34 7) = dwN M + 4 := rfl
  have n4 : dwN (st (st (st (st (seaO M b) (dwN M) 32 7) (dwN M) 33 7) (dwN M) 34 7) (dwN M) 35 7) = dwN M + 5 := rfl
  have w1 := st_rn (M := seaO M b) (o := dwN M) (f := 32) (m := 7)
  have w2 := st_rn (M := st (seaO M b) (dwN M) 32 7) (o := dwN M) (f := 33) (m := 7)
  have w3 := st_rn (M := st (st (seaO M b) (dwN M) 32 7) (dwN M) 33 7) (o := dwN M) (f := 34) (m := 7)
  have w4 := st_rn (M := st (st (st (seaO M b) (dwN M) 32 7) (dwN M) 33 7) (dwN M) 34 7) (o := dwN M) (f := 35) (m := 7)
  have w5 := st_rn (M := st (st (st (st (seaO M b) (dwN M) 32 7) (dwN M) 33 7) (dwN M) 34 7) (dwN M) 35 7) (o := dwN M) (f := 36) (m := 42)
  have k1 := st_kn (M := seaO M b) (o := dwN M) (f := 32) (m := 7)
  have k2 := st_kn (M := st (seaO M b) (dwN M) 32 7) (o := dwN M) (f := 33) (m := 7)
  have k3 := st_kn (M := st (st (seaO M b) (dwN M) 32 7) (dwN M) 33 7) (o := dwN M) (f := 34) (m := 7)
  have k4 := st_kn (M := st (st (st (seaO M b) (dwN M) 32 7) (dwN M) 33 7) (dwN M) 34 7) (o := dwN M) (f := 35) (m := 7)
  have k5 := st_kn (M := st (st (st (st (seaO M b) (dwN M) 32 7) (dwN M) 33 7) (dwN M) 34 7) (dwN M) 35 7) (o := dwN M) (f := 36) (m := 42)
  have j1 := st_in (M := seaO M b) (o := dwN M) (f := 32) (m := 7)
  have j2 := st_in (M := st (seaO M b) (dwN M) 32 7) (o := dwN M) (f := 33) (m := 7)
  have j3 := st_in (M := st (st (seaO M b) (dwN M) 32 7) (dwN M) 33 7) (o := dwN M) (f := 34) (m := 7)
  have j4 := st_in (M := st (st (st (seaO M b) (dwN M) 32 7) (dwN M) 33 7) (dwN M) 34 7) (o := dwN M) (f := 35) (m := 7)
  have j5 := st_in (M := st (st (st (st (seaO M b) (dwN M) 32 7) (dwN M) 33 7) (dwN M) 34 7) (dwN M) 35 7) (o := dwN M) (f := 36) (m := 42)
  rw [q0] at w1 k1 j1
  rw [n1] at w2 k2 j2
  rw [n2] at w3 k3 j3
  rw [n3] at w4 k4 j4
  rw [n4] at w5 k5 j5
  refine ⟨q, st_fr (st_fr (st_fr (st_fr (st_fr f0 (Nat.le_refl _)) (Nat.le_refl _)) (Nat.le_refl _)) (Nat.le_refl _)) (Nat.le_refl _), ⟨by omega, ?_, ?_, ?_, ?_, ?_, ?_, ?_, ?_, ?_, ?_, ?_, ?_⟩, fun i hi => ?_⟩
  · unfold seaM; rw [st_k (by omega), st_k (by omega), st_k (by omega), st_k (by omega), st_k (by omega), k0]
  · unfold seaM; rw [st_r (by omega) (by omega), st_r (by omega) (by omega), st_r (by omega) (by omega), st_r (by omega) (by omega), st_r (by omega) (by omega), r0]
  · unfold seaM; rw [st_r (by omega) (by omega), st_r (by omega) (by omega), st_r (by omega) (by omega), st_r (by omega) (by omega), w1]
  · unfold seaM; rw [st_r (by omega) (by omega), st_r (by omega) (by omega), st_r (by omega) (by omega), w2]
  · unfold seaM; rw [st_r (by omega) (by omega), st_r (by omega) (by omega), w3]
  · unfold seaM; rw [st_r (by omega) (by omega), w4]
  · unfold seaM; rw [w5]
  · unfold seaM; rw [st_k (by omega), st_k (by omega), st_k (by omega), st_k (by omega), k1]
  · unfold seaM; rw [st_k (by omega), st_k (by omega), st_k (by omega), k2]
  · unfold seaM; rw [st_k (by omega), st_k (by omega), k3]
  · unfold seaM; rw [st_k (by omega), k4]
  · unfold seaM; rw [k5]
  · unfold seaM
    rcases (by omega : i = 0 ∨ i = 1 ∨ i = 2 ∨ i = 3 ∨ i = 4 ∨ i = 5) with rfl | rfl | rfl | rfl | rfl | rfl
    · rw [Nat.add_zero, st_i (by omega), st_i (by omega), st_i (by omega), st_i (by omega), st_i (by omega), i0]
    · rw [st_i (by omega), st_i (by omega), st_i (by omega), st_i (by omega), j1]
    · rw [st_i (by omega), st_i (by omega), st_i (by omega), j2]
    · rw [st_i (by omega), st_i (by omega), j3]
    · rw [st_i (by omega), j4]
    · rw [j5]
theorem xaN_v {ρ : Type} {M : dwSt} {t a n p : Nat} (h : dwK M a = (t, n)) (hp : p < n) (hn : n < 2147483648) (K : Option Nat → Option ρ) : xaN M t a (Int32.ofNat p) K = K (dwR M a p) := by
  unfold xaN; rw [i_nat (by omega), i_toInt (by omega), h, if_pos ⟨rfl, by omega, by show (p : Int) < ((n : Nat) : Int); omega⟩]
theorem xsR_v {ρ : Type} {M : dwSt} {a n p v : Nat} (h : dwK M a = (5, n)) (hp : p < n) (hn : n < 2147483648) (hv : dwK M v = (0, 2)) (K : dwSt → Option ρ) : xsR M 5 [2] a (Int32.ofNat p) v K = K (dwPR M a p (some v)) := by
  unfold xsR; rw [i_nat (by omega), i_toInt (by omega), h, hv, if_pos ⟨rfl, ⟨by omega, by show (p : Int) < ((n : Nat) : Int); omega⟩, rfl, rfl⟩]
section KEPT
variable {b : Nat} {w : Nat → Nat} {M : dwSt}
def sTag (b : Nat) (w : Nat → Nat) (tag : Nat) : Nat → Nat → Prop := fun a _ => b + 562 ≤ a ∧ w a = tag
def zAt (arr k : Nat) : Nat → Nat → Prop := fun a j => a = arr ∧ j = k
theorem c_kept {arr na k tag src n : Nat} {r : Nat → Int32} (hs : Sh b M) (hR : room M 6 82) (hA : dwK M arr = (5, na)) (hk : k < na) (hna : na < 100) (harr : arr < b + 562) (hsl : cSlot b w M arr k tag) (hsrc : cSea b M src n r) (hd : src + 6 ≤ b + 562 ∨ ∀ i, i < 6 → w (src + i) ≠ tag) :
    ∃ M1 w', m_X1_kept M b arr (Int32.ofNat k) src = some ((), M1) ∧ (∀ a, a < dwN M → w' a = w a) ∧ fr (sTag b w' tag) (zAt arr k) 6 82 M M1 ∧ cSlot b w' M1 arr k tag ∧ cHas M1 arr k n r := by
  have hn := shN hs
  have h0 := hsrc.1.1
  unfold m_X1_kept
  rw [xaN_v hA hk (by omega)]
  rcases hsl with he | ⟨s, h1, h2, h3, h4⟩
  · rw [he]
    simp only [jn_u]
    rw [xnew_sea hR, c_seaInit hR]
    obtain ⟨q1, q2, q3, q4⟩ := seaM_s (b := b) (M := M)
    have hA2 : dwK (seaM M b) arr = (5, na) := (q2.k (by omega)).trans hA
    simp only [xmb_v]
    rw [xsR_v hA2 hk (by omega) q3.2.1]
    have hA3 : dwK (dwPR (seaM M b) arr k (some (dwN M))) arr = (5, na) := hA2
    rw [xaR_v hA3 hk (by omega) (by rw [dr_PR, if_pos ⟨rfl, rfl⟩]), xrk_u (show dwK (dwPR (seaM M b) arr k (some (dwN M))) (dwN M) = (0, 2) from q3.2.1)]
    have fp : fr nz (zAt arr k) 6 82 M (dwPR (seaM M b) arr k (some (dwN M))) := (q2.mono (fun _ _ q => q) (fun _ _ q => False.elim q) (Nat.le_refl _) (Nat.le_refl _)).pR _ (Or.inl ⟨rfl, rfl⟩)
    have fz : fr nz (zAt arr k) 0 0 (seaM M b) (dwPR (seaM M b) arr k (some (dwN M))) := (fr.refl _).pR _ (Or.inl ⟨rfl, rfl⟩)
    have hsrc2 : cSea b (dwPR (seaM M b) arr k (some (dwN M))) src n r := by
      rcases Nat.lt_or_ge src (b + 562) with hlt | hge
      · by_cases he2 : src = arr
        · exfalso
          have := hsrc.1.2.1
          rw [he2, hA] at this
          cases this
        · exact hsrc.fr fp (fun _ _ _ q => q) (fun j q => he2 q.1)
      · exact hsrc.fr fp (fun _ _ _ q => q) (fun j q => by have := q.1; omega)
    have hnew : cShp b (dwPR (seaM M b) arr k (some (dwN M))) (dwN M) := q3.fr fz (fun j q => by have := q.1; omega)
    obtain ⟨M2, e2, f2, g2⟩ := c_becomes hnew hsrc2 (by omega)
    rw [e2]
    refine ⟨M2, fun a => if dwN M ≤ a then tag else w a, rfl, fun a ha => if_neg (by omega), ?_, Or.inr ⟨dwN M, ?_, g2.1, by omega, fun i hi => if_pos (by omega)⟩, dwN M, ?_, g2.2⟩
    · have fa : fr (sTag b (fun a => if dwN M ≤ a then tag else w a) tag) (zAt arr k) 6 82 M (dwPR (seaM M b) arr k (some (dwN M))) := fp.mono (fun _ _ q => False.elim q) (fun _ _ q => q) (Nat.le_refl _) (Nat.le_refl _)
      refine fa.t0 (f2.mono (fun a j q => ?_) (fun _ _ q => False.elim q) (Nat.le_refl _) (Nat.le_refl _))
      unfold sSe at q
      exact ⟨by omega, if_pos (by omega)⟩
    · exact (f2.r (by show arr < dwN (seaM M b); omega) (fun q => q)).trans (by rw [dr_PR, if_pos ⟨rfl, rfl⟩])
    · exact (f2.r (by show arr < dwN (seaM M b); omega) (fun q => q)).trans (by rw [dr_PR, if_pos ⟨rfl, rfl⟩])
  · rw [h1]
    simp only [jn_u]
    rw [xaR_v hA hk (by omega) h1, xrk_u h2.2.1]
    have hdis : s + 6 ≤ src ∨ src + 6 ≤ s := by
      rcases hd with hd | hd
      · right; omega
      · rcases Nat.lt_or_ge src s with hlt | hge
        · right
          refine Classical.byContradiction fun hc => hd (s - src) (by omega) ?_
          rw [show src + (s - src) = s + 0 by omega]
          exact h4 0 (by omega)
        · left
          refine Classical.byContradiction fun hc => hd 0 (by omega) ?_
          have := h4 (src - s) (by omega)
          rw [show s + (src - s) = src + 0 by omega] at this
          exact this
    obtain ⟨M2, e2, f2, g2⟩ := c_becomes h2 hsrc hdis
    rw [e2]
    have hs5 := h2.1
    have ar : dwR M2 arr k = some s := (f2.r (by omega) (fun q => q)).trans h1
    refine ⟨M2, w, rfl, fun a _ => rfl, f2.mono (fun a j q => ?_) (fun _ _ q => False.elim q) (by omega) (by omega), Or.inr ⟨s, ar, g2.1, h3, h4⟩, s, ar, g2.2⟩
    unfold sSe at q
    refine ⟨by omega, ?_⟩
    have := h4 (a - s) (by omega)
    rw [show s + (a - s) = a by omega] at this
    exact this
end KEPT
