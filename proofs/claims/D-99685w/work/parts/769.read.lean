/-! THE LAW without a text, made (printed by a program) -/
def cusM (M : dwSt) : dwSt := dwPR (dwPR (dwPI (dwMk (dwPR (dwPR (dwPR (dwPR (dwPI (dwMk (dwPI (dwMk (dwMk (dwPR (dwPR (dwPR (dwPR (dwPI (dwMk (dwPI (dwMk (dwMk (dwPI (dwMk (dwMk (dwMk (dwMk M (0, 11) 2) (0, 11) 2) (0, 11) 2) (0, 12) 1) (dwN M + 3) 114 0) (0, 13) 2) (0, 12) 1) (dwN M + 5) 114 1) (0, 14) 1) (dwN M + 6) 115 2) (dwN M + 4) 112 (some (dwN M + 5))) (dwN M + 4) 113 (some (dwN M + 6))) (dwN M + 2) 112 (some (dwN M + 3))) (dwN M + 2) 113 (some (dwN M + 4))) (0, 13) 2) (0, 12) 1) (dwN M + 8) 114 2) (0, 14) 1) (dwN M + 9) 115 3) (dwN M + 7) 112 (some (dwN M + 8))) (dwN M + 7) 113 (some (dwN M + 9))) (dwN M + 1) 112 (some (dwN M + 2))) (dwN M + 1) 113 (some (dwN M + 7))) (0, 12) 1) (dwN M + 10) 114 5) (dwN M) 112 (some (dwN M + 1))) (dwN M) 113 (some (dwN M + 10))
def cusF (M : dwSt) (n : Nat) : Prop := dwK M n = (0, 11) ∧ dwK M (n + 1) = (0, 11) ∧ dwK M (n + 2) = (0, 11) ∧ dwK M (n + 3) = (0, 12) ∧ dwK M (n + 4) = (0, 13) ∧ dwK M (n + 5) = (0, 12) ∧ dwK M (n + 6) = (0, 14) ∧ dwK M (n + 7) = (0, 13) ∧ dwK M (n + 8) = (0, 12) ∧ dwK M (n + 9) = (0, 14) ∧ dwK M (n + 10) = (0, 12) ∧ dwI M (n + 3) 114 = 0 ∧ dwI M (n + 5) 114 = 1 ∧ dwI M (n + 6) 115 = 2 ∧ dwI M (n + 8) 114 = 2 ∧ dwI M (n + 9) 115 = 3 ∧ dwI M (n + 10) 114 = 5 ∧ dwR M n 112 = some (n + 1) ∧ dwR M n 113 = some (n + 10) ∧ dwR M (n + 1) 112 = some (n + 2) ∧ dwR M (n + 1) 113 = some (n + 7) ∧ dwR M (n + 2) 112 = some (n + 3) ∧ dwR M (n + 2) 113 = some (n + 4) ∧ dwR M (n + 4) 112 = some (n + 5) ∧ dwR M (n + 4) 113 = some (n + 6) ∧ dwR M (n + 7) 112 = some (n + 8) ∧ dwR M (n + 7) 113 = some (n + 9)
def cusV (f : Nat → Int32) : Int32 := f 0 - 2 * f 1 - 3 * f 2 - f 5
section CUS
variable {M : dwSt}
theorem cusM_n : dwN (cusM M) = dwN M + 11 := rfl
theorem cusM_fr : fr nz nz 11 16 M (cusM M) := by
  have f1 : fr (atN (dwN M)) (atN (dwN M)) 11 16 M (cusM M) := by
    have le : ∀ i k, atN (dwN M) (dwN M + i) k ∨ dwN M ≤ dwN M + i := fun i k => Or.inr (by omega)
    unfold cusM
    refine fr.mono (cn := 0 + 1 + 1 + 1 + 1 + 1 + 1 + 1 + 1 + 1 + 1 + 1) (cu := 0 + 2 + 2 + 2 + 1 + 2 + 1 + 1 + 2 + 1 + 1 + 1) ?_ (fun _ _ z => z) (fun _ _ z => z) (by omega) (by omega)
    exact ((((((((((((((((((((((((((((fr.refl M).mk _ _).mk _ _).mk _ _).mk _ _).pI _ (le 3 _)).mk _ _).mk _ _).pI _ (le 5 _)).mk _ _).pI _ (le 6 _)).pR _ (le 4 _)).pR _ (le 4 _)).pR _ (le 2 _)).pR _ (le 2 _)).mk _ _).mk _ _).pI _ (le 8 _)).mk _ _).pI _ (le 9 _)).pR _ (le 7 _)).pR _ (le 7 _)).pR _ (le 1 _)).pR _ (le 1 _)).mk _ _).pI _ (le 10 _)).pR _ (le 0 _)).pR _ (le 0 _))
  exact f1.old (fun a k ha z => by have : dwN M ≤ a := z; omega) (fun a k ha z => by have : dwN M ≤ a := z; omega)
theorem c_cus (hR : room M 11 16) : m_X1_custom M = some (dwN M, cusM M) := by
  obtain ⟨r1, r2⟩ := hR
  have hk0 : (dwN M < dwC M) = True := eq_true (by omega)
  have hk : ∀ i, i < 11 → (dwN M + i < dwC M) = True := fun i hi => eq_true (by omega)
  have hu : ∀ j, j ≤ 16 → (dwU M + j ≤ dwLS) = True := fun j hj => eq_true (by omega)
  have w11 : ∀ f, 112 ≤ f → f ≤ 113 → dwHasW (0, 11) f = true := fun f h1 h2 => hw11 h1 h2
  have w12 : dwHasW (0, 12) 114 = true := rfl
  have w13 : ∀ f, 112 ≤ f → f ≤ 113 → dwHasW (0, 13) f = true := fun f h1 h2 => hw13 h1 h2
  have w14 : dwHasW (0, 14) 115 = true := rfl
  simp -implicitDefEqProofs only [m_X1_custom, m_X4_init, m_X5_init, m_X6_init, m_X7_init, m_X8_init, m_X3_init, ↓xN1, ↓xN2, ↓xN11, ↓xN12, ↓xN13, ↓xN14, ↓xN26, ↓xN0, ↓xN3, ↓xA2, ↓xA3, ↓xA4, ↓xA5, ↓xA6, ↓xA7, ↓xA10, ↓xA12, ↓xA14, ↓xA16, ↓xA41, ↓xA42, ↓xA48, ↓xA79, ↓xA160, ↓xA600, dn_Mk, dn_PI, dn_PR, dn_PL, dc_Mk, dc_PI, dc_PR, dc_PL, du_Mk, du_PI, du_PR, du_PL, dk_Mk, dk_PI, dk_PR, dk_PL, ↓xpI_u, ↓xpR_u, ↓xpN_u, ↓xob_v, ↓xmb_v, Nat.add_assoc, Nat.reduceAdd, Nat.reduceLT, Nat.reduceLeDiff, Nat.reduceEqDiff, na1, na2, na3, if_true, if_false, ↓reduceIte, eq_self, not_false_eq_true, hk0, hk, hu, w11, w12, w13, w14, cusM]
theorem cusM_f : cusF (cusM M) (dwN M) := by
  refine ⟨?_, ?_, ?_, ?_, ?_, ?_, ?_, ?_, ?_, ?_, ?_, ?_, ?_, ?_, ?_, ?_, ?_, ?_, ?_, ?_, ?_, ?_, ?_, ?_, ?_, ?_, ?_⟩
  all_goals first
    | (simp only [cusM, ↓xN1, ↓xN2, ↓xN11, ↓xN12, ↓xN13, ↓xN14, ↓xN26, ↓xN0, ↓xN3, ↓xA2, ↓xA3, ↓xA4, ↓xA5, ↓xA6, ↓xA7, ↓xA10, ↓xA12, ↓xA14, ↓xA16, ↓xA41, ↓xA42, ↓xA48, ↓xA79, ↓xA160, ↓xA600, dn_Mk, dn_PI, dn_PR, dn_PL, dc_Mk, dc_PI, dc_PR, dc_PL, du_Mk, du_PI, du_PR, du_PL, dk_Mk, dk_PI, dk_PR, dk_PL, ↓xpI_u, ↓xpR_u, ↓xpN_u, ↓xob_v, ↓xmb_v, Nat.add_assoc, Nat.reduceAdd, Nat.reduceLT, Nat.reduceLeDiff, Nat.reduceEqDiff, na1, na2, na3, if_true, if_false, ↓reduceIte, eq_self, not_false_eq_true, dr_PI, dr_PR, dr_Mk, di_PI, di_PR, di_Mk, and_self, and_true, and_false, false_and, true_and]; done)
    | (simp only [cusM, ↓xN1, ↓xN2, ↓xN11, ↓xN12, ↓xN13, ↓xN14, ↓xN26, ↓xN0, ↓xN3, ↓xA2, ↓xA3, ↓xA4, ↓xA5, ↓xA6, ↓xA7, ↓xA10, ↓xA12, ↓xA14, ↓xA16, ↓xA41, ↓xA42, ↓xA48, ↓xA79, ↓xA160, ↓xA600, dn_Mk, dn_PI, dn_PR, dn_PL, dc_Mk, dc_PI, dc_PR, dc_PL, du_Mk, du_PI, du_PR, du_PL, dk_Mk, dk_PI, dk_PR, dk_PL, ↓xpI_u, ↓xpR_u, ↓xpN_u, ↓xob_v, ↓xmb_v, Nat.add_assoc, Nat.reduceAdd, Nat.reduceLT, Nat.reduceLeDiff, Nat.reduceEqDiff, na1, na2, na3, if_true, if_false, ↓reduceIte, eq_self, not_false_eq_true, dr_PI, dr_PR, dr_Mk, di_PI, di_PR, di_Mk, and_self, and_true, and_false, false_and, true_and]; rfl)
end CUS
