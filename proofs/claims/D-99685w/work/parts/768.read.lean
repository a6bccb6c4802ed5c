/-! NEW CELLS, one behind another -/
theorem na1 {n i j : Nat} (h : ¬ i = j) : (n + i = n + j) = False := eq_false (by omega)
theorem na2 {n j : Nat} (h : ¬ j = 0) : (n = n + j) = False := eq_false (by omega)
theorem na3 {n i : Nat} (h : ¬ i = 0) : (n + i = n) = False := eq_false (by omega)
section NEW
variable {ρ : Type}
theorem xN1 {M : dwSt} {K : Nat → dwSt → Option ρ} (h1 : dwN M < dwC M) (h2 : dwU M + 9 ≤ dwLS) : xnew M 1 K = K (dwN M) (dwMk M (0, 1) 9) := xnew_u (by decide) ⟨by omega, h2⟩
theorem xN2 {M : dwSt} {K : Nat → dwSt → Option ρ} (h1 : dwN M < dwC M) (h2 : dwU M + 12 ≤ dwLS) : xnew M 2 K = K (dwN M) (dwMk M (0, 2) 12) := xnew_u (by decide) ⟨by omega, h2⟩
theorem xN11 {M : dwSt} {K : Nat → dwSt → Option ρ} (h1 : dwN M < dwC M) (h2 : dwU M + 2 ≤ dwLS) : xnew M 11 K = K (dwN M) (dwMk M (0, 11) 2) := xnew_u (by decide) ⟨by omega, h2⟩
theorem xN12 {M : dwSt} {K : Nat → dwSt → Option ρ} (h1 : dwN M < dwC M) (h2 : dwU M + 1 ≤ dwLS) : xnew M 12 K = K (dwN M) (dwMk M (0, 12) 1) := xnew_u (by decide) ⟨by omega, h2⟩
theorem xN13 {M : dwSt} {K : Nat → dwSt → Option ρ} (h1 : dwN M < dwC M) (h2 : dwU M + 2 ≤ dwLS) : xnew M 13 K = K (dwN M) (dwMk M (0, 13) 2) := xnew_u (by decide) ⟨by omega, h2⟩
theorem xN14 {M : dwSt} {K : Nat → dwSt → Option ρ} (h1 : dwN M < dwC M) (h2 : dwU M + 1 ≤ dwLS) : xnew M 14 K = K (dwN M) (dwMk M (0, 14) 1) := xnew_u (by decide) ⟨by omega, h2⟩
theorem xN26 {M : dwSt} {K : Nat → dwSt → Option ρ} (h1 : dwN M < dwC M) (h2 : dwU M + 3 ≤ dwLS) : xnew M 26 K = K (dwN M) (dwMk M (0, 26) 3) := xnew_u (by decide) ⟨by omega, h2⟩
theorem xN0 {M : dwSt} {K : Nat → dwSt → Option ρ} (h1 : dwN M < dwC M) (h2 : dwU M + 23 ≤ dwLS) : xnew M 0 K = K (dwN M) (dwMk M (0, 0) 23) := xnew_u (by decide) ⟨by omega, h2⟩
theorem xN3 {M : dwSt} {K : Nat → dwSt → Option ρ} (h1 : dwN M < dwC M) (h2 : dwU M + 46 ≤ dwLS) : xnew M 3 K = K (dwN M) (dwMk M (0, 3) 46) := xnew_u (by decide) ⟨by omega, h2⟩
theorem xA2 {M : dwSt} {t : Nat} {K : Nat → dwSt → Option ρ} (h1 : dwN M < dwC M) (h2 : dwU M + 2 ≤ dwLS) : xnewA M t 2 K = K (dwN M) (dwMk M (t, 2) 2) := xnewA_u (n := 2) (by omega) ⟨by omega, h2⟩
theorem xA3 {M : dwSt} {t : Nat} {K : Nat → dwSt → Option ρ} (h1 : dwN M < dwC M) (h2 : dwU M + 3 ≤ dwLS) : xnewA M t 3 K = K (dwN M) (dwMk M (t, 3) 3) := xnewA_u (n := 3) (by omega) ⟨by omega, h2⟩
theorem xA4 {M : dwSt} {t : Nat} {K : Nat → dwSt → Option ρ} (h1 : dwN M < dwC M) (h2 : dwU M + 4 ≤ dwLS) : xnewA M t 4 K = K (dwN M) (dwMk M (t, 4) 4) := xnewA_u (n := 4) (by omega) ⟨by omega, h2⟩
theorem xA5 {M : dwSt} {t : Nat} {K : Nat → dwSt → Option ρ} (h1 : dwN M < dwC M) (h2 : dwU M + 5 ≤ dwLS) : xnewA M t 5 K = K (dwN M) (dwMk M (t, 5) 5) := xnewA_u (n := 5) (by omega) ⟨by omega, h2⟩
theorem xA6 {M : dwSt} {t : Nat} {K : Nat → dwSt → Option ρ} (h1 : dwN M < dwC M) (h2 : dwU M + 6 ≤ dwLS) : xnewA M t 6 K = K (dwN M) (dwMk M (t, 6) 6) := xnewA_u (n := 6) (by omega) ⟨by omega, h2⟩
theorem xA7 {M : dwSt} {t : Nat} {K : Nat → dwSt → Option ρ} (h1 : dwN M < dwC M) (h2 : dwU M + 7 ≤ dwLS) : xnewA M t 7 K = K (dwN M) (dwMk M (t, 7) 7) := xnewA_u (n := 7) (by omega) ⟨by omega, h2⟩
theorem xA10 {M : dwSt} {t : Nat} {K : Nat → dwSt → Option ρ} (h1 : dwN M < dwC M) (h2 : dwU M + 10 ≤ dwLS) : xnewA M t 10 K = K (dwN M) (dwMk M (t, 10) 10) := xnewA_u (n := 10) (by omega) ⟨by omega, h2⟩
theorem xA12 {M : dwSt} {t : Nat} {K : Nat → dwSt → Option ρ} (h1 : dwN M < dwC M) (h2 : dwU M + 12 ≤ dwLS) : xnewA M t 12 K = K (dwN M) (dwMk M (t, 12) 12) := xnewA_u (n := 12) (by omega) ⟨by omega, h2⟩
theorem xA14 {M : dwSt} {t : Nat} {K : Nat → dwSt → Option ρ} (h1 : dwN M < dwC M) (h2 : dwU M + 14 ≤ dwLS) : xnewA M t 14 K = K (dwN M) (dwMk M (t, 14) 14) := xnewA_u (n := 14) (by omega) ⟨by omega, h2⟩
theorem xA16 {M : dwSt} {t : Nat} {K : Nat → dwSt → Option ρ} (h1 : dwN M < dwC M) (h2 : dwU M + 16 ≤ dwLS) : xnewA M t 16 K = K (dwN M) (dwMk M (t, 16) 16) := xnewA_u (n := 16) (by omega) ⟨by omega, h2⟩
theorem xA41 {M : dwSt} {t : Nat} {K : Nat → dwSt → Option ρ} (h1 : dwN M < dwC M) (h2 : dwU M + 41 ≤ dwLS) : xnewA M t 41 K = K (dwN M) (dwMk M (t, 41) 41) := xnewA_u (n := 41) (by omega) ⟨by omega, h2⟩
theorem xA42 {M : dwSt} {t : Nat} {K : Nat → dwSt → Option ρ} (h1 : dwN M < dwC M) (h2 : dwU M + 42 ≤ dwLS) : xnewA M t 42 K = K (dwN M) (dwMk M (t, 42) 42) := xnewA_u (n := 42) (by omega) ⟨by omega, h2⟩
theorem xA48 {M : dwSt} {t : Nat} {K : Nat → dwSt → Option ρ} (h1 : dwN M < dwC M) (h2 : dwU M + 48 ≤ dwLS) : xnewA M t 48 K = K (dwN M) (dwMk M (t, 48) 48) := xnewA_u (n := 48) (by omega) ⟨by omega, h2⟩
theorem xA79 {M : dwSt} {t : Nat} {K : Nat → dwSt → Option ρ} (h1 : dwN M < dwC M) (h2 : dwU M + 79 ≤ dwLS) : xnewA M t 79 K = K (dwN M) (dwMk M (t, 79) 79) := xnewA_u (n := 79) (by omega) ⟨by omega, h2⟩
theorem xA160 {M : dwSt} {t : Nat} {K : Nat → dwSt → Option ρ} (h1 : dwN M < dwC M) (h2 : dwU M + 160 ≤ dwLS) : xnewA M t 160 K = K (dwN M) (dwMk M (t, 160) 160) := xnewA_u (n := 160) (by omega) ⟨by omega, h2⟩
theorem xA600 {M : dwSt} {t : Nat} {K : Nat → dwSt → Option ρ} (h1 : dwN M < dwC M) (h2 : dwU M + 600 ≤ dwLS) : xnewA M t 600 K = K (dwN M) (dwMk M (t, 600) 600) := xnewA_u (n := 600) (by omega) ⟨by omega, h2⟩
end NEW
/-- the told, made -/
def tolM (M : dwSt) : dwSt := dwPI (dwPI (dwPR (dwMk (dwPR (dwMk (dwPR (dwMk (dwPR (dwPR (dwMk (dwPI (dwMk (dwPR (dwPR (dwMk (dwPI (dwMk (dwMk M (0, 1) 9) (0, 26) 3) (dwN M + 1) 124 0) (6, 4) 4) (dwN M + 1) 125 (some (dwN M + 2))) (dwN M) 23 (some (dwN M + 1))) (0, 26) 3) (dwN M + 3) 124 0) (6, 4) 4) (dwN M + 3) 125 (some (dwN M + 4))) (dwN M) 24 (some (dwN M + 3))) (1, 7) 7) (dwN M) 25 (some (dwN M + 5))) (1, 12) 12) (dwN M) 26 (some (dwN M + 6))) (1, 12) 12) (dwN M) 27 (some (dwN M + 7))) (dwN M) 29 20) (dwN M) 30 2
def tolF (M : dwSt) (d : Nat) : Prop := dwK M d = (0, 1) ∧ (dwR M d 23 = some (d + 1) ∧ dwR M d 24 = some (d + 3) ∧ dwR M d 25 = some (d + 5) ∧ dwR M d 26 = some (d + 6) ∧ dwR M d 27 = some (d + 7)) ∧ (dwK M (d + 5) = (1, 7) ∧ dwK M (d + 6) = (1, 12) ∧ dwK M (d + 7) = (1, 12)) ∧ (∀ p, dwI M (d + 5) p = 0) ∧ (dwI M d 28 = 0 ∧ dwI M d 29 = 20 ∧ dwI M d 30 = 2 ∧ dwI M d 31 = 0) ∧ rwL M (d + 1) 0 (d + 2) 4 (fun _ => 0) ∧ rwL M (d + 3) 0 (d + 4) 4 (fun _ => 0)
section TOL
variable {M : dwSt}
theorem tolM_n : dwN (tolM M) = dwN M + 8 := rfl
theorem tolM_fr : fr nz nz 8 54 M (tolM M) := by
  have f1 : fr (atN (dwN M)) (atN (dwN M)) 8 54 M (tolM M) := by
    have le : ∀ i k, atN (dwN M) (dwN M + i) k ∨ dwN M ≤ dwN M + i := fun i k => Or.inr (by omega)
    unfold tolM
    refine fr.mono (cn := 0 + 1 + 1 + 1 + 1 + 1 + 1 + 1 + 1) (cu := 0 + 9 + 3 + 4 + 3 + 4 + 7 + 12 + 12) ?_ (fun _ _ z => z) (fun _ _ z => z) (by omega) (by omega)
    exact ((((((((((((((((((((fr.refl M).mk _ _).mk _ _).pI _ (le 1 _)).mk _ _).pR _ (le 1 _)).pR _ (le 0 _)).mk _ _).pI _ (le 3 _)).mk _ _).pR _ (le 3 _)).pR _ (le 0 _)).mk _ _).pR _ (le 0 _)).mk _ _).pR _ (le 0 _)).mk _ _).pR _ (le 0 _)).pI _ (le 0 _)).pI _ (le 0 _))
  exact f1.old (fun a k ha z => by have : dwN M ≤ a := z; omega) (fun a k ha z => by have : dwN M ≤ a := z; omega)
theorem c_mkT (hR : room M 8 54) : m_X2_init (dwMk M (0, 1) 9) (dwN M) = some ((), tolM M) := by
  obtain ⟨r1, r2⟩ := hR
  have hk0 : (dwN M < dwC M) = True := eq_true (by omega)
  have hk : ∀ i, i < 8 → (dwN M + i < dwC M) = True := fun i hi => eq_true (by omega)
  have hu : ∀ j, j ≤ 54 → (dwU M + j ≤ dwLS) = True := fun j hj => eq_true (by omega)
  have e4 : ((4 : Int32) ≤ 0) = False := eq_false (by decide)
  have w1 : ∀ f, 23 ≤ f → f ≤ 31 → dwHasW (0, 1) f = true := fun f h1 h2 => hw1 h1 h2
  have w26 : ∀ f, 124 ≤ f → f ≤ 126 → dwHasW (0, 26) f = true := fun f h1 h2 => hw26 h1 h2
  simp -implicitDefEqProofs only [m_X2_init, m_J2_init, m_J1_init, m_J0_init, ↓xN1, ↓xN2, ↓xN11, ↓xN12, ↓xN13, ↓xN14, ↓xN26, ↓xN0, ↓xN3, ↓xA2, ↓xA3, ↓xA4, ↓xA5, ↓xA6, ↓xA7, ↓xA10, ↓xA12, ↓xA14, ↓xA16, ↓xA41, ↓xA42, ↓xA48, ↓xA79, ↓xA160, ↓xA600, dn_Mk, dn_PI, dn_PR, dn_PL, dc_Mk, dc_PI, dc_PR, dc_PL, du_Mk, du_PI, du_PR, du_PL, dk_Mk, dk_PI, dk_PR, dk_PL, ↓xpI_u, ↓xpR_u, ↓xpN_u, ↓xob_v, ↓xmb_v, Nat.add_assoc, Nat.reduceAdd, Nat.reduceLT, Nat.reduceLeDiff, Nat.reduceEqDiff, na1, na2, na3, if_true, if_false, ↓reduceIte, eq_self, not_false_eq_true, hk0, hk, hu, e4, w1, w26, tolM]
theorem tolM_f : tolF (tolM M) (dwN M) := by
  refine ⟨?_, ⟨?_, ?_, ?_, ?_, ?_⟩, ⟨?_, ?_, ?_⟩, fun p => ?_, ⟨?_, ?_, ?_, ?_⟩, ⟨?_, ?_, ?_, ?_, Nat.zero_le _, by omega, ?_, fun p hp => absurd hp (Nat.not_lt_zero p)⟩, ⟨?_, ?_, ?_, ?_, Nat.zero_le _, by omega, ?_, fun p hp => absurd hp (Nat.not_lt_zero p)⟩⟩
  all_goals first
    | (rw [tolM_n]; omega)
    | (simp only [tolM, ↓xN1, ↓xN2, ↓xN11, ↓xN12, ↓xN13, ↓xN14, ↓xN26, ↓xN0, ↓xN3, ↓xA2, ↓xA3, ↓xA4, ↓xA5, ↓xA6, ↓xA7, ↓xA10, ↓xA12, ↓xA14, ↓xA16, ↓xA41, ↓xA42, ↓xA48, ↓xA79, ↓xA160, ↓xA600, dn_Mk, dn_PI, dn_PR, dn_PL, dc_Mk, dc_PI, dc_PR, dc_PL, du_Mk, du_PI, du_PR, du_PL, dk_Mk, dk_PI, dk_PR, dk_PL, ↓xpI_u, ↓xpR_u, ↓xpN_u, ↓xob_v, ↓xmb_v, Nat.add_assoc, Nat.reduceAdd, Nat.reduceLT, Nat.reduceLeDiff, Nat.reduceEqDiff, na1, na2, na3, if_true, if_false, ↓reduceIte, eq_self, not_false_eq_true, dr_PI, dr_PR, dr_Mk, di_PI, di_PR, di_Mk, and_self, and_true, and_false, false_and, true_and]; done)
    | (simp only [tolM, ↓xN1, ↓xN2, ↓xN11, ↓xN12, ↓xN13, ↓xN14, ↓xN26, ↓xN0, ↓xN3, ↓xA2, ↓xA3, ↓xA4, ↓xA5, ↓xA6, ↓xA7, ↓xA10, ↓xA12, ↓xA14, ↓xA16, ↓xA41, ↓xA42, ↓xA48, ↓xA79, ↓xA160, ↓xA600, dn_Mk, dn_PI, dn_PR, dn_PL, dc_Mk, dc_PI, dc_PR, dc_PL, du_Mk, du_PI, du_PR, du_PL, dk_Mk, dk_PI, dk_PR, dk_PL, ↓xpI_u, ↓xpR_u, ↓xpN_u, ↓xob_v, ↓xmb_v, Nat.add_assoc, Nat.reduceAdd, Nat.reduceLT, Nat.reduceLeDiff, Nat.reduceEqDiff, na1, na2, na3, if_true, if_false, ↓reduceIte, eq_self, not_false_eq_true, dr_PI, dr_PR, dr_Mk, di_PI, di_PR, di_Mk, and_self, and_true, and_false, false_and, true_and]; rfl)
end TOL
