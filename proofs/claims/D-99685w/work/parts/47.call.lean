theorem or_z {a c : Nat} : a ||| c = 0 ↔ a = 0 ∧ c = 0 := by
  constructor
  · intro h
    have h1 : a ≤ a ||| c := Nat.left_le_or
    have h2 : c ≤ a ||| c := Nat.right_le_or
    omega
  · intro ⟨h1, h2⟩; subst h1; subst h2; rfl
theorem sum_who {T : dvT} {r : Nat → Int32} (h : rowOK T r) : ∀ n, n ≤ tP T → n ≤ 7 → ∃ s, s ≤ 99 * n ∧ sumS n r 7 = Int32.ofNat s ∧ (s = 0 ↔ whoN n r 7 = 0) := by
  intro n
  induction n with
  | zero => intro _ _; exact ⟨0, by omega, rfl, fun _ => rfl, fun _ => rfl⟩
  | succ n ih =>
    intro hn h7
    obtain ⟨s, h1, h2, h3⟩ := ih (by omega) (by omega)
    obtain ⟨t, ht, et⟩ := nat_of (n := 99) (h.1 n (by omega)).2.1 (h.1 n (by omega)).2.2 (by omega)
    refine ⟨s + t, by omega, ?_, ?_⟩
    · show sumS n r 7 + r (7 + n) = _
      rw [h2, et, i_add]
    · show _ ↔ whoN n r 7 ||| (if r (7 + n) ≤ 0 then 0 else 2 ^ n) = 0
      rw [or_z, ← h3]
      by_cases q : t = 0
      · subst q
        rw [if_pos (by rw [et]; exact Int32.le_refl 0)]
        omega
      · rw [if_neg (by rw [et, i_le0 (by omega) (by omega)]; exact id)]
        have : 0 < 2 ^ n := Nat.two_pow_pos n
        omega
theorem sum_0 {T : dvT} {r : Nat → Int32} (h : rowOK T r) (h7 : tP T ≤ 7) : sumS (tP T) r 7 ≤ 0 ↔ whoS (tP T) r 7 = 0 := by
  obtain ⟨s, h1, h2, h3⟩ := sum_who h (tP T) (Nat.le_refl _) h7
  have hl := whoN_lt (r := r) (o := 7) h7
  rw [h2, who_n h7, ← i_zero, i_le (by omega) (by omega), i_inj (by omega) (by omega), ← h3]
  omega
section CALL
variable {b : Nat} {w : Nat → Nat} {M : dwSt} {A : dvA}
/-! dry -/
def dryB (A : dvA) (z : Nat → Int32) (k : Nat) : Bool := !decide (whoS (tP (aT A)) (dayN (aT A) (cp79 (aNow A) z) k) 7 = 0)
def dryV (A : dvA) (z : Nat → Int32) : Int32 := if fsN (dryB A z) 100 = 100 then -1 else Int32.ofNat (fsN (dryB A z) 100)
theorem dayN_ok {T : dvT} {r : Nat → Int32} (hO : tOK T) (h : rowOK T r) : ∀ n, rowOK T (dayN T r n) := by
  intro n
  induction n with
  | zero => exact h
  | succ n ih => exact rowOK_day hO ih
theorem i_99 {i : Nat} (h : i < 100) : ((99 : Int32) < Int32.ofNat i) = False := by
  rw [show (99 : Int32) = Int32.ofNat 99 from rfl, i_lt (by omega) (by omega)]; exact eq_false (by omega)
theorem C_dry (z : Nat → Int32) (hC : CInv b w M A) : ∃ M1, m_X1_dry M b = some (dryV A z, M1) ∧ fr (cSc b) nz 0 0 M M1 := by
  have hs := hC.1.1
  have hO := hC.1.ok.1
  obtain ⟨M0, e0, f0, h0⟩ := c_probe hC z
  have hr0 : rowOK (aT A) (cp79 (aNow A) z) := rowOK_c hC.1.ok.2.2.1.1 hO.1 (fun k hk => cp79_e hk)
  simp -implicitDefEqProofs only [m_X1_dry, ↓gp0_2, ↓gp0_3, ↓gp0_4, ↓gp0_5, ↓gp0_6, ↓gp0_7, ↓gp0_8, ↓gp0_9, ↓gp0_10, ↓gp0_18, ↓gp0_19, ↓gp0_20, ↓gp0_22, ↓gp23_43, ↓gp23_32, ↓gp23_33, ↓gp23_34, ↓gp23_35, ↓gp23_36, ↓gp29_43, ↓gp29_32, ↓gp29_33, ↓gp29_34, ↓gp29_35, ↓gp29_36, ↓gp54_53, ↓gp54_54, ↓gp54_55, ↓gp54_56, ↓gp54_57, ↓gp54_58, ↓gp54_59, ↓gp54_60, ↓gp54_61, ↓gp54_62, ↓gp54_65, ↓gp54_66, ↓gp54_67, ↓gp54_68, ↓gp54_69, ↓gp54_70, ↓gp54_71, ↓gp54_73, ↓gp54_74, ↓gp54_75, ↓gp54_76, ↓gp54_84, ↓gp54_85, ↓gp54_87, ↓gp54_88, ↓xr59, kr59, ↓xr67, kr67, ↓xr75, kr75, ↓xr82, kr82, ↓xr89, kr89, ↓xr102, kr102, ↓xr115, kr115, ↓xr276, kr276, ↓xr437, kr437, ↓xr444, kr444, ↓xr453, kr453, ↓xr536, kr536, ↓xr553, kr553, hs0, hw0, hs1, hw1, hs2, hw2, hs3, hw3, hs4, hw4, hs5, hw5, hs6, hw6, hs7, hw7, hs8, hw8, hs9, hw9, hs10, hw10, hs11, hw11, hs12, hw12, hs13, hw13, hs14, hw14, hs15, hw15, hs16, hw16, hs17, hw17, hs18, hw18, hs19, hw19, hs20, hw20, hs21, hw21, hs22, hw22, hs23, hw23, hs25, hw25, hs26, hw26, hs27, hw27, hs28, hw28, hs9b, hw9b, hs10b, hw10b, kd0, kd20, kd21, kd22, kd23, kd24, kd25, kd26, kd27, kd28, kd29, kd30, kd31, kd32, kd33, kd34, kd35, kd36, kd37, kd38, kd39, kd40, kd41, kd42, kd54, kd55, kd56, kd57, kd58, kd59, kd67, kd75, kd82, kd89, kd102, kd115, kd276, kd437, kd444, kd451, kd452, kd453, kd534, kd535, kd536, kd553, kd557, kd558, kd559, kd560, kd561, ↓xgI_u, ↓xpI_u, ↓xaI_u, ↓xsI_u, ↓xrk_u, ↓xrk0_u, ↓xob_v, ↓xmb_v, ↓xth_v, ↓xth_x, ↓jn_u, ↓xlen_u, ↓xaL_u, ↓xsL_u, ↓xbl_0, ↓xbl_1, eq_self, inb_n, inb_d, Sh_PI, Sh_PL, dk_PI, dk_PL, dr_PI, dr_PL, ↓reduceIte, Int32.reduceLE, Int32.reduceLT, Int32.reduceToNatClampNeg, Nat.reduceLT, Nat.reduceLeDiff, Nat.reduceEqDiff, Nat.reduceAdd, Nat.reduceMul, hs, e0]
  refine lpx (E := fun x => ∃ M1, x = some (dryV A z, M1) ∧ fr (cSc b) nz 0 0 M M1) (fun f i (M1 : dwSt) => L_X1_dry_14 (b + 29) (fun (y5 : Int32) (M6 : dwSt) => some (y5, M6)) (fun (M7 : dwSt) => some ((-1 : Int32), M7)) f (Int32.ofNat i) M1) 100 (fun i M1 => fr (sSe (b + 29)) nz 0 0 M M1 ∧ cSea b M1 (b + 29) (tP (aT A)) (dayN (aT A) (cp79 (aNow A) z) i) ∧ fsN (dryB A z) i = i) ?_ ?_ 1000000 0 M0 (by omega) (by omega) ⟨f0, h0, rfl⟩
  · intro f M1 ⟨hf, hr, e⟩
    refine ⟨M1, ?_, hf.mono sSe_c (fun _ _ q => q) (Nat.le_refl _) (Nat.le_refl _)⟩
    show L_X1_dry_14 (b + 29) _ _ (f + 1) (Int32.ofNat 100) M1 = _
    rw [L_X1_dry_14, if_pos (by decide)]
    unfold dryV
    rw [if_pos e]
  · intro f i M1 hi ⟨hf, hr, e⟩ hnx
    have hf2 : fr (cSc b) nz 0 0 M M1 := hf.mono sSe_c (fun _ _ q => q) (Nat.le_refl _) (Nat.le_refl _)
    have c1 := cinv_s hC hf2
    have s7 := c_sum (o := 7) c1.1.1 c1.1.2.1 hr.1 (kd31 c1.1.1) hr.2.2.1
    have hz := sum_0 (dayN_ok hO hr0 i) hO.1
    show ∃ M3, L_X1_dry_14 (b + 29) _ _ (f + 1) (Int32.ofNat i) M1 = _ ∧ _
    by_cases hc : whoS (tP (aT A)) (dayN (aT A) (cp79 (aNow A) z) i) 7 = 0
    · obtain ⟨M2, u, f2, h2⟩ := c_passes c1.1.1 c1.1.2.1 hr (w := w) sep_probe
      simp -implicitDefEqProofs only [L_X1_dry_14, i_99 hi, if_false, ↓gp0_2, ↓gp0_3, ↓gp0_4, ↓gp0_5, ↓gp0_6, ↓gp0_7, ↓gp0_8, ↓gp0_9, ↓gp0_10, ↓gp0_18, ↓gp0_19, ↓gp0_20, ↓gp0_22, ↓gp23_43, ↓gp23_32, ↓gp23_33, ↓gp23_34, ↓gp23_35, ↓gp23_36, ↓gp29_43, ↓gp29_32, ↓gp29_33, ↓gp29_34, ↓gp29_35, ↓gp29_36, ↓gp54_53, ↓gp54_54, ↓gp54_55, ↓gp54_56, ↓gp54_57, ↓gp54_58, ↓gp54_59, ↓gp54_60, ↓gp54_61, ↓gp54_62, ↓gp54_65, ↓gp54_66, ↓gp54_67, ↓gp54_68, ↓gp54_69, ↓gp54_70, ↓gp54_71, ↓gp54_73, ↓gp54_74, ↓gp54_75, ↓gp54_76, ↓gp54_84, ↓gp54_85, ↓gp54_87, ↓gp54_88, ↓xr59, kr59, ↓xr67, kr67, ↓xr75, kr75, ↓xr82, kr82, ↓xr89, kr89, ↓xr102, kr102, ↓xr115, kr115, ↓xr276, kr276, ↓xr437, kr437, ↓xr444, kr444, ↓xr453, kr453, ↓xr536, kr536, ↓xr553, kr553, hs0, hw0, hs1, hw1, hs2, hw2, hs3, hw3, hs4, hw4, hs5, hw5, hs6, hw6, hs7, hw7, hs8, hw8, hs9, hw9, hs10, hw10, hs11, hw11, hs12, hw12, hs13, hw13, hs14, hw14, hs15, hw15, hs16, hw16, hs17, hw17, hs18, hw18, hs19, hw19, hs20, hw20, hs21, hw21, hs22, hw22, hs23, hw23, hs25, hw25, hs26, hw26, hs27, hw27, hs28, hw28, hs9b, hw9b, hs10b, hw10b, kd0, kd20, kd21, kd22, kd23, kd24, kd25, kd26, kd27, kd28, kd29, kd30, kd31, kd32, kd33, kd34, kd35, kd36, kd37, kd38, kd39, kd40, kd41, kd42, kd54, kd55, kd56, kd57, kd58, kd59, kd67, kd75, kd82, kd89, kd102, kd115, kd276, kd437, kd444, kd451, kd452, kd453, kd534, kd535, kd536, kd553, kd557, kd558, kd559, kd560, kd561, ↓xgI_u, ↓xpI_u, ↓xaI_u, ↓xsI_u, ↓xrk_u, ↓xrk0_u, ↓xob_v, ↓xmb_v, ↓xth_v, ↓xth_x, ↓jn_u, ↓xlen_u, ↓xaL_u, ↓xsL_u, ↓xbl_0, ↓xbl_1, eq_self, inb_n, inb_d, Sh_PI, Sh_PL, dk_PI, dk_PL, dr_PI, dr_PL, ↓reduceIte, Int32.reduceLE, Int32.reduceLT, Int32.reduceToNatClampNeg, Nat.reduceLT, Nat.reduceLeDiff, Nat.reduceEqDiff, Nat.reduceAdd, Nat.reduceMul, c1.1.1, s7, hz.mpr hc, if_true, u, i_succ]
      exact hnx M2 ⟨hf.t0 f2, h2, fsN_n e (by unfold dryB; simp [hc])⟩
    · have hc' : ¬ sumS (tP (aT A)) (dayN (aT A) (cp79 (aNow A) z) i) 7 ≤ 0 := fun q => hc (hz.mp q)
      simp -implicitDefEqProofs only [L_X1_dry_14, i_99 hi, if_false, ↓gp0_2, ↓gp0_3, ↓gp0_4, ↓gp0_5, ↓gp0_6, ↓gp0_7, ↓gp0_8, ↓gp0_9, ↓gp0_10, ↓gp0_18, ↓gp0_19, ↓gp0_20, ↓gp0_22, ↓gp23_43, ↓gp23_32, ↓gp23_33, ↓gp23_34, ↓gp23_35, ↓gp23_36, ↓gp29_43, ↓gp29_32, ↓gp29_33, ↓gp29_34, ↓gp29_35, ↓gp29_36, ↓gp54_53, ↓gp54_54, ↓gp54_55, ↓gp54_56, ↓gp54_57, ↓gp54_58, ↓gp54_59, ↓gp54_60, ↓gp54_61, ↓gp54_62, ↓gp54_65, ↓gp54_66, ↓gp54_67, ↓gp54_68, ↓gp54_69, ↓gp54_70, ↓gp54_71, ↓gp54_73, ↓gp54_74, ↓gp54_75, ↓gp54_76, ↓gp54_84, ↓gp54_85, ↓gp54_87, ↓gp54_88, ↓xr59, kr59, ↓xr67, kr67, ↓xr75, kr75, ↓xr82, kr82, ↓xr89, kr89, ↓xr102, kr102, ↓xr115, kr115, ↓xr276, kr276, ↓xr437, kr437, ↓xr444, kr444, ↓xr453, kr453, ↓xr536, kr536, ↓xr553, kr553, hs0, hw0, hs1, hw1, hs2, hw2, hs3, hw3, hs4, hw4, hs5, hw5, hs6, hw6, hs7, hw7, hs8, hw8, hs9, hw9, hs10, hw10, hs11, hw11, hs12, hw12, hs13, hw13, hs14, hw14, hs15, hw15, hs16, hw16, hs17, hw17, hs18, hw18, hs19, hw19, hs20, hw20, hs21, hw21, hs22, hw22, hs23, hw23, hs25, hw25, hs26, hw26, hs27, hw27, hs28, hw28, hs9b, hw9b, hs10b, hw10b, kd0, kd20, kd21, kd22, kd23, kd24, kd25, kd26, kd27, kd28, kd29, kd30, kd31, kd32, kd33, kd34, kd35, kd36, kd37, kd38, kd39, kd40, kd41, kd42, kd54, kd55, kd56, kd57, kd58, kd59, kd67, kd75, kd82, kd89, kd102, kd115, kd276, kd437, kd444, kd451, kd452, kd453, kd534, kd535, kd536, kd553, kd557, kd558, kd559, kd560, kd561, ↓xgI_u, ↓xpI_u, ↓xaI_u, ↓xsI_u, ↓xrk_u, ↓xrk0_u, ↓xob_v, ↓xmb_v, ↓xth_v, ↓xth_x, ↓jn_u, ↓xlen_u, ↓xaL_u, ↓xsL_u, ↓xbl_0, ↓xbl_1, eq_self, inb_n, inb_d, Sh_PI, Sh_PL, dk_PI, dk_PL, dr_PI, dr_PL, ↓reduceIte, Int32.reduceLE, Int32.reduceLT, Int32.reduceToNatClampNeg, Nat.reduceLT, Nat.reduceLeDiff, Nat.reduceEqDiff, Nat.reduceAdd, Nat.reduceMul, c1.1.1, s7, hc']
      have e2 := fsN_s e (show dryB A z i = true by unfold dryB; simp [hc]) 100 (by omega)
      refine ⟨M1, ?_, hf2⟩
      unfold dryV
      rw [e2, if_neg (by omega)]
theorem T_dry {z : Nat → Int32} (hT : TInv b M A) (hz : dwI M (b + 535) = z) : ∃ M2, m_X10_dry M (b + 54) = some (dryV A z, M2) ∧ fr (tSc b) nz 0 0 (dwPI M (b + 54) 44 0) M2 := by
  obtain ⟨hT0, fz, z0⟩ := tinv_z hT
  have hs0 := hT0.1.1
  obtain ⟨M0, e0, f0, h0⟩ := t_trial hT0
  rw [di_off (by omega), hz] at h0
  simp -implicitDefEqProofs only [m_X10_dry, ↓gp0_2, ↓gp0_3, ↓gp0_4, ↓gp0_5, ↓gp0_6, ↓gp0_7, ↓gp0_8, ↓gp0_9, ↓gp0_10, ↓gp0_18, ↓gp0_19, ↓gp0_20, ↓gp0_22, ↓gp23_43, ↓gp23_32, ↓gp23_33, ↓gp23_34, ↓gp23_35, ↓gp23_36, ↓gp29_43, ↓gp29_32, ↓gp29_33, ↓gp29_34, ↓gp29_35, ↓gp29_36, ↓gp54_53, ↓gp54_54, ↓gp54_55, ↓gp54_56, ↓gp54_57, ↓gp54_58, ↓gp54_59, ↓gp54_60, ↓gp54_61, ↓gp54_62, ↓gp54_65, ↓gp54_66, ↓gp54_67, ↓gp54_68, ↓gp54_69, ↓gp54_70, ↓gp54_71, ↓gp54_73, ↓gp54_74, ↓gp54_75, ↓gp54_76, ↓gp54_84, ↓gp54_85, ↓gp54_87, ↓gp54_88, ↓xr59, kr59, ↓xr67, kr67, ↓xr75, kr75, ↓xr82, kr82, ↓xr89, kr89, ↓xr102, kr102, ↓xr115, kr115, ↓xr276, kr276, ↓xr437, kr437, ↓xr444, kr444, ↓xr453, kr453, ↓xr536, kr536, ↓xr553, kr553, hs0, hw0, hs1, hw1, hs2, hw2, hs3, hw3, hs4, hw4, hs5, hw5, hs6, hw6, hs7, hw7, hs8, hw8, hs9, hw9, hs10, hw10, hs11, hw11, hs12, hw12, hs13, hw13, hs14, hw14, hs15, hw15, hs16, hw16, hs17, hw17, hs18, hw18, hs19, hw19, hs20, hw20, hs21, hw21, hs22, hw22, hs23, hw23, hs25, hw25, hs26, hw26, hs27, hw27, hs28, hw28, hs9b, hw9b, hs10b, hw10b, kd0, kd20, kd21, kd22, kd23, kd24, kd25, kd26, kd27, kd28, kd29, kd30, kd31, kd32, kd33, kd34, kd35, kd36, kd37, kd38, kd39, kd40, kd41, kd42, kd54, kd55, kd56, kd57, kd58, kd59, kd67, kd75, kd82, kd89, kd102, kd115, kd276, kd437, kd444, kd451, kd452, kd453, kd534, kd535, kd536, kd553, kd557, kd558, kd559, kd560, kd561, ↓xgI_u, ↓xpI_u, ↓xaI_u, ↓xsI_u, ↓xrk_u, ↓xrk0_u, ↓xob_v, ↓xmb_v, ↓xth_v, ↓xth_x, ↓jn_u, ↓xlen_u, ↓xaL_u, ↓xsL_u, ↓xbl_0, ↓xbl_1, eq_self, inb_n, inb_d, Sh_PI, Sh_PL, dk_PI, dk_PL, dr_PI, dr_PL, ↓reduceIte, Int32.reduceLE, Int32.reduceLT, Int32.reduceToNatClampNeg, Nat.reduceLT, Nat.reduceLeDiff, Nat.reduceEqDiff, Nat.reduceAdd, Nat.reduceMul, hT.1.1, e0]
  refine lpx (E := fun x => ∃ M1, x = some (dryV A z, M1) ∧ fr (tSc b) nz 0 0 (dwPI M (b + 54) 44 0) M1) (fun f i (M1 : dwSt) => L_X10_dry_18 (b + 54) (fun (y6 : Int32) (M7 : dwSt) => some (y6, M7)) (fun (M8 : dwSt) => some ((-1 : Int32), M8)) f (Int32.ofNat i) M1) 100 (fun i M1 => fr (sRow (b + 535)) nz 0 0 (dwPI M (b + 54) 44 0) M1 ∧ dwI M1 (b + 535) = dayN (aT A) (cp79 (aNow A) z) i ∧ fsN (dryB A z) i = i) ?_ ?_ 1000000 0 M0 (by omega) (by omega) ⟨f0, h0, rfl⟩
  · intro f M1 ⟨hf, hr, e⟩
    refine ⟨M1, ?_, hf.mono sRow_s (fun _ _ q => q) (Nat.le_refl _) (Nat.le_refl _)⟩
    show L_X10_dry_18 (b + 54) _ _ (f + 1) (Int32.ofNat 100) M1 = _
    rw [L_X10_dry_18, if_pos (by decide)]
    unfold dryV
    rw [if_pos e]
  · intro f i M1 hi ⟨hf, hr, e⟩ hnx
    have hf2 : fr (tSc b) nz 0 0 (dwPI M (b + 54) 44 0) M1 := hf.mono sRow_s (fun _ _ q => q) (Nat.le_refl _) (Nat.le_refl _)
    have c1 := tinv_s hT0 hf2
    have w7 : m_X10_whoHas M1 (b + 54) (b + 535) 7 = _ := t_whoHas (o := 7) c1.1.1 c1.1.2.1 (kd535 c1.1.1) (by omega)
    rw [hr] at w7
    show ∃ M3, L_X10_dry_18 (b + 54) _ _ (f + 1) (Int32.ofNat i) M1 = _ ∧ _
    by_cases hc : whoS (tP (aT A)) (dayN (aT A) (cp79 (aNow A) z) i) 7 = 0
    · obtain ⟨M2, u, f2, h2⟩ := t_dayEnds (a := b + 535) c1.1.1 c1.1.2.1 (Or.inr rfl)
      simp -implicitDefEqProofs only [L_X10_dry_18, i_99 hi, if_false, ↓gp0_2, ↓gp0_3, ↓gp0_4, ↓gp0_5, ↓gp0_6, ↓gp0_7, ↓gp0_8, ↓gp0_9, ↓gp0_10, ↓gp0_18, ↓gp0_19, ↓gp0_20, ↓gp0_22, ↓gp23_43, ↓gp23_32, ↓gp23_33, ↓gp23_34, ↓gp23_35, ↓gp23_36, ↓gp29_43, ↓gp29_32, ↓gp29_33, ↓gp29_34, ↓gp29_35, ↓gp29_36, ↓gp54_53, ↓gp54_54, ↓gp54_55, ↓gp54_56, ↓gp54_57, ↓gp54_58, ↓gp54_59, ↓gp54_60, ↓gp54_61, ↓gp54_62, ↓gp54_65, ↓gp54_66, ↓gp54_67, ↓gp54_68, ↓gp54_69, ↓gp54_70, ↓gp54_71, ↓gp54_73, ↓gp54_74, ↓gp54_75, ↓gp54_76, ↓gp54_84, ↓gp54_85, ↓gp54_87, ↓gp54_88, ↓xr59, kr59, ↓xr67, kr67, ↓xr75, kr75, ↓xr82, kr82, ↓xr89, kr89, ↓xr102, kr102, ↓xr115, kr115, ↓xr276, kr276, ↓xr437, kr437, ↓xr444, kr444, ↓xr453, kr453, ↓xr536, kr536, ↓xr553, kr553, hs0, hw0, hs1, hw1, hs2, hw2, hs3, hw3, hs4, hw4, hs5, hw5, hs6, hw6, hs7, hw7, hs8, hw8, hs9, hw9, hs10, hw10, hs11, hw11, hs12, hw12, hs13, hw13, hs14, hw14, hs15, hw15, hs16, hw16, hs17, hw17, hs18, hw18, hs19, hw19, hs20, hw20, hs21, hw21, hs22, hw22, hs23, hw23, hs25, hw25, hs26, hw26, hs27, hw27, hs28, hw28, hs9b, hw9b, hs10b, hw10b, kd0, kd20, kd21, kd22, kd23, kd24, kd25, kd26, kd27, kd28, kd29, kd30, kd31, kd32, kd33, kd34, kd35, kd36, kd37, kd38, kd39, kd40, kd41, kd42, kd54, kd55, kd56, kd57, kd58, kd59, kd67, kd75, kd82, kd89, kd102, kd115, kd276, kd437, kd444, kd451, kd452, kd453, kd534, kd535, kd536, kd553, kd557, kd558, kd559, kd560, kd561, ↓xgI_u, ↓xpI_u, ↓xaI_u, ↓xsI_u, ↓xrk_u, ↓xrk0_u, ↓xob_v, ↓xmb_v, ↓xth_v, ↓xth_x, ↓jn_u, ↓xlen_u, ↓xaL_u, ↓xsL_u, ↓xbl_0, ↓xbl_1, eq_self, inb_n, inb_d, Sh_PI, Sh_PL, dk_PI, dk_PL, dr_PI, dr_PL, ↓reduceIte, Int32.reduceLE, Int32.reduceLT, Int32.reduceToNatClampNeg, Nat.reduceLT, Nat.reduceLeDiff, Nat.reduceEqDiff, Nat.reduceAdd, Nat.reduceMul, c1.1.1, w7, hc, if_true, u, i_succ]
      exact hnx M2 ⟨hf.t0 f2, by rw [h2, hr]; rfl, fsN_n e (by unfold dryB; simp [hc])⟩
    · simp -implicitDefEqProofs only [L_X10_dry_18, i_99 hi, if_false, ↓gp0_2, ↓gp0_3, ↓gp0_4, ↓gp0_5, ↓gp0_6, ↓gp0_7, ↓gp0_8, ↓gp0_9, ↓gp0_10, ↓gp0_18, ↓gp0_19, ↓gp0_20, ↓gp0_22, ↓gp23_43, ↓gp23_32, ↓gp23_33, ↓gp23_34, ↓gp23_35, ↓gp23_36, ↓gp29_43, ↓gp29_32, ↓gp29_33, ↓gp29_34, ↓gp29_35, ↓gp29_36, ↓gp54_53, ↓gp54_54, ↓gp54_55, ↓gp54_56, ↓gp54_57, ↓gp54_58, ↓gp54_59, ↓gp54_60, ↓gp54_61, ↓gp54_62, ↓gp54_65, ↓gp54_66, ↓gp54_67, ↓gp54_68, ↓gp54_69, ↓gp54_70, ↓gp54_71, ↓gp54_73, ↓gp54_74, ↓gp54_75, ↓gp54_76, ↓gp54_84, ↓gp54_85, ↓gp54_87, ↓gp54_88, ↓xr59, kr59, ↓xr67, kr67, ↓xr75, kr75, ↓xr82, kr82, ↓xr89, kr89, ↓xr102, kr102, ↓xr115, kr115, ↓xr276, kr276, ↓xr437, kr437, ↓xr444, kr444, ↓xr453, kr453, ↓xr536, kr536, ↓xr553, kr553, hs0, hw0, hs1, hw1, hs2, hw2, hs3, hw3, hs4, hw4, hs5, hw5, hs6, hw6, hs7, hw7, hs8, hw8, hs9, hw9, hs10, hw10, hs11, hw11, hs12, hw12, hs13, hw13, hs14, hw14, hs15, hw15, hs16, hw16, hs17, hw17, hs18, hw18, hs19, hw19, hs20, hw20, hs21, hw21, hs22, hw22, hs23, hw23, hs25, hw25, hs26, hw26, hs27, hw27, hs28, hw28, hs9b, hw9b, hs10b, hw10b, kd0, kd20, kd21, kd22, kd23, kd24, kd25, kd26, kd27, kd28, kd29, kd30, kd31, kd32, kd33, kd34, kd35, kd36, kd37, kd38, kd39, kd40, kd41, kd42, kd54, kd55, kd56, kd57, kd58, kd59, kd67, kd75, kd82, kd89, kd102, kd115, kd276, kd437, kd444, kd451, kd452, kd453, kd534, kd535, kd536, kd553, kd557, kd558, kd559, kd560, kd561, ↓xgI_u, ↓xpI_u, ↓xaI_u, ↓xsI_u, ↓xrk_u, ↓xrk0_u, ↓xob_v, ↓xmb_v, ↓xth_v, ↓xth_x, ↓jn_u, ↓xlen_u, ↓xaL_u, ↓xsL_u, ↓xbl_0, ↓xbl_1, eq_self, inb_n, inb_d, Sh_PI, Sh_PL, dk_PI, dk_PL, dr_PI, dr_PL, ↓reduceIte, Int32.reduceLE, Int32.reduceLT, Int32.reduceToNatClampNeg, Nat.reduceLT, Nat.reduceLeDiff, Nat.reduceEqDiff, Nat.reduceAdd, Nat.reduceMul, c1.1.1, w7, hc]
      have e2 := fsN_s e (show dryB A z i = true by unfold dryB; simp [hc]) 100 (by omega)
      refine ⟨M1, ?_, hf2⟩
      unfold dryV
      rw [e2, if_neg (by omega)]
theorem agree2_mkz {f g : dwSt → Option (Int32 × dwSt)} {v : Int32} (hC : CInv b w M A) (hT : TInv b M A)
    (h1 : ∃ M1, f M = some (v, M1) ∧ fr (cSc b) nz 0 0 M M1)
    (h2 : ∀ M1, TInv b M1 A → fr (cWo b) (zWo b) 9000 113000 M M1 → ∃ M2, g M1 = some (v, M2) ∧ fr (tSc b) nz 0 0 (dwPI M1 (b + 54) 44 0) M2) : agree2 b M f g := by
  obtain ⟨M1, e1, f1⟩ := h1
  have f2 : fr (cWo b) (zWo b) 9000 113000 M M1 := f1.mono (fun a k q => by unfold cSc at q; unfold cWo; omega) (fun _ _ q => False.elim q) (by omega) (by omega)
  have t1 := tinv_c hT f2
  obtain ⟨M2, e2, f3⟩ := h2 M1 t1 f2
  obtain ⟨M3, e3, t3, f4⟩ := t_okp (g := g) t1 ⟨M2, e2, f3⟩
  exact ⟨v, M1, e1, M3, e3, ⟨w, A, cinv_t (cinv_s hC f1) f4, t3⟩, (f2.mono (fun a k q => q.1) (fun a k q => q.1.1) (Nat.le_refl _) (Nat.le_refl _)).t0 (f4.mono (fun a k q => by unfold tW at q; show b ≤ a; omega) (fun a k q => False.elim q) (Nat.le_refl _) (Nat.le_refl _))⟩
theorem call_dry (hC : CInv b w M A) (hT : TInv b M A) : agree2 b M (fun M => m_X1_dry M b) (fun M => m_X10_dry M (b + 54)) :=
  agree2_mkz (v := dryV A (dwI M (b + 535))) hC hT (C_dry _ hC) fun M1 h1 hf => T_dry h1 (trial_same hT.1.1 hf)
/-! alike -/
def alkP (A : dvA) (a c : Nat) (s : Nat × Int32) : Nat × Int32 := if tpe (aT A) a 1 = tpe (aT A) c 1 then (s.1 + 1, if s.1 = 0 then Int32.ofNat (10 * a + c) else s.2) else s
def alkI (A : dvA) (a : Nat) (s : Nat × Int32) (n : Nat) : Nat × Int32 := itr (fun t s => alkP A a (a + 1 + t) s) s n
def alkO (A : dvA) (n : Nat) : Nat × Int32 := itr (fun a s => alkI A a s (tP (aT A) - (a + 1))) (0, -1) n
def alkQ (s : Nat × Int32) : Prop := s.1 = 0 ↔ s.2 = -1
theorem alkP_q {A : dvA} {a c : Nat} {s : Nat × Int32} (h : alkQ s) (hb : 10 * a + c < 2147483648) : alkQ (alkP A a c s) ∧ (alkP A a c s).1 ≤ s.1 + 1 := by
  unfold alkP
  split
  · refine ⟨⟨fun q => by simp at q, fun q => ?_⟩, Nat.le_refl _⟩
    exfalso
    by_cases e : s.1 = 0
    · simp only [e, if_true] at q
      rw [nn_m1 hb] at q; exact q
    · simp only [e, if_false] at q
      exact e (h.mpr q)
  · exact ⟨h, by omega⟩
theorem alkI_q {A : dvA} {a : Nat} {s : Nat × Int32} (h : alkQ s) (ha : a < 7) : ∀ n, n ≤ 7 → alkQ (alkI A a s n) ∧ (alkI A a s n).1 ≤ s.1 + n := by
  intro n
  induction n with
  | zero => intro _; exact ⟨h, Nat.le_refl _⟩
  | succ n ih =>
    intro hn
    obtain ⟨h1, h2⟩ := ih (by omega)
    obtain ⟨h3, h4⟩ := alkP_q (A := A) (a := a) (c := a + 1 + n) h1 (by omega)
    exact ⟨h3, Nat.le_trans h4 (by omega)⟩
theorem alkO_q (A : dvA) (h7 : tP (aT A) ≤ 7) : ∀ n, n ≤ 7 → alkQ (alkO A n) ∧ (alkO A n).1 ≤ 7 * n := by
  intro n
  induction n with
  | zero => intro _; exact ⟨⟨fun _ => rfl, fun _ => rfl⟩, Nat.le_refl _⟩
  | succ n ih =>
    intro hn
    obtain ⟨h1, h2⟩ := ih (by omega)
    obtain ⟨h3, h4⟩ := alkI_q (A := A) (a := n) h1 (by omega) (tP (aT A) - (n + 1)) (by omega)
    exact ⟨h3, Nat.le_trans h4 (by omega)⟩
def alkV (A : dvA) (y : Int32) : Int32 := if y = 0 then Int32.ofNat (alkO A (tP (aT A))).1 else (alkO A (tP (aT A))).2
theorem x_10 (a c : Nat) : (10 : Int32) * Int32.ofNat a + Int32.ofNat c = Int32.ofNat (10 * a + c) := by
  rw [show (10 : Int32) = Int32.ofNat 10 from rfl, i_mul, i_add]
theorem C_alike {y : Int32} (hC : CInv b w M A) (hy : inV y 0 1 = 1) : ∃ M1, m_X1_alike M b y = some (.inl (alkV A y), M1) ∧ fr (cSc b) nz 0 0 M M1 := by
  have o1 := hC.1.ok.1.1
  have hs := hC.1.1
  have hp := c_persons hs hC.1.2.1
  refine ⟨M, ?_, fr.refl M⟩
  simp -implicitDefEqProofs only [m_X1_alike, ↓xgI_u, ↓xpI_u, ↓xaI_u, ↓xsI_u, ↓xrk_u, ↓xrk0_u, ↓xob_v, ↓xmb_v, ↓xth_v, ↓xth_x, ↓jn_u, ↓xlen_u, ↓xaL_u, ↓xsL_u, ↓xbl_0, ↓xbl_1, eq_self, inb_n, inb_d, Sh_PI, Sh_PL, dk_PI, dk_PL, dr_PI, dr_PL, ↓reduceIte, Int32.reduceLE, Int32.reduceLT, Int32.reduceToNatClampNeg, Nat.reduceLT, Nat.reduceLeDiff, Nat.reduceEqDiff, Nat.reduceAdd, Nat.reduceMul, kd0 hs, c_part, c_need1 hy]
  generalize hK : (fun (y4 : Int32) (y5 : Int32) => (if y = 0 then some (.inl y4, M) else some (.inl y5, M) : dwR9 Int32)) = K
  refine lpx (E := fun x => x = some (.inl (alkV A y), M)) (fun f i (s : Int32 × Int32) => L_X1_alike_15 M b y K f s.1 s.2 (Int32.ofNat i)) (tP (aT A)) (fun i s => s = (Int32.ofNat (alkO A i).1, (alkO A i).2)) ?_ ?_ 1000000 0 (0, -1) (by omega) (by omega) rfl
  · intro f s e
    simp -implicitDefEqProofs only [L_X1_alike_15, ↓xgI_u, ↓xpI_u, ↓xaI_u, ↓xsI_u, ↓xrk_u, ↓xrk0_u, ↓xob_v, ↓xmb_v, ↓xth_v, ↓xth_x, ↓jn_u, ↓xlen_u, ↓xaL_u, ↓xsL_u, ↓xbl_0, ↓xbl_1, eq_self, inb_n, inb_d, Sh_PI, Sh_PL, dk_PI, dk_PL, dr_PI, dr_PL, ↓reduceIte, Int32.reduceLE, Int32.reduceLT, Int32.reduceToNatClampNeg, Nat.reduceLT, Nat.reduceLeDiff, Nat.reduceEqDiff, Nat.reduceAdd, Nat.reduceMul, kd0 hs, hp, i_geT, if_true]
    unfold alkV
    rw [e, ← hK]
    by_cases h : y = 0
    · simp only [h, if_true]
    · simp only [h, if_false]
  · intro f i s hi e hn
    obtain ⟨q1, q2⟩ := alkO_q A o1 i (by omega)
    show L_X1_alike_15 M b y K (f + 1) s.1 s.2 (Int32.ofNat i) = _
    rw [L_X1_alike_15]
    simp only [↓xgI_u, ↓xpI_u, ↓xaI_u, ↓xsI_u, ↓xrk_u, ↓xrk0_u, ↓xob_v, ↓xmb_v, ↓xth_v, ↓xth_x, ↓jn_u, ↓xlen_u, ↓xaL_u, ↓xsL_u, ↓xbl_0, ↓xbl_1, eq_self, inb_n, inb_d, Sh_PI, Sh_PL, dk_PI, dk_PL, dr_PI, dr_PL, ↓reduceIte, Int32.reduceLE, Int32.reduceLT, Int32.reduceToNatClampNeg, Nat.reduceLT, Nat.reduceLeDiff, Nat.reduceEqDiff, Nat.reduceAdd, Nat.reduceMul, kd0 hs, hp, i_geF hi (by omega), if_false, i_succ]
    refine lpx (E := fun x => x = some (.inl (alkV A y), M)) (fun f' t (s : Int32 × Int32) => L_X1_alike_30 M b y (Int32.ofNat i) (fun (y7 : Int32) (y8 : Int32) => L_X1_alike_15 M b y K f y7 y8 (Int32.ofNat (i + 1))) f' s.1 s.2 (Int32.ofNat (i + 1 + t))) (tP (aT A) - (i + 1)) (fun t s => s = (Int32.ofNat (alkI A i (alkO A i) t).1, (alkI A i (alkO A i) t).2)) ?_ ?_ 1000000 0 s (by omega) (by omega) e
    · intro f' s e
      show L_X1_alike_30 M b y (Int32.ofNat i) _ (f' + 1) s.1 s.2 (Int32.ofNat (i + 1 + (tP (aT A) - (i + 1)))) = _
      rw [show i + 1 + (tP (aT A) - (i + 1)) = tP (aT A) by omega]
      simp -implicitDefEqProofs only [L_X1_alike_30, ↓xgI_u, ↓xpI_u, ↓xaI_u, ↓xsI_u, ↓xrk_u, ↓xrk0_u, ↓xob_v, ↓xmb_v, ↓xth_v, ↓xth_x, ↓jn_u, ↓xlen_u, ↓xaL_u, ↓xsL_u, ↓xbl_0, ↓xbl_1, eq_self, inb_n, inb_d, Sh_PI, Sh_PL, dk_PI, dk_PL, dr_PI, dr_PL, ↓reduceIte, Int32.reduceLE, Int32.reduceLT, Int32.reduceToNatClampNeg, Nat.reduceLT, Nat.reduceLeDiff, Nat.reduceEqDiff, Nat.reduceAdd, Nat.reduceMul, kd0 hs, hp, i_geT, if_true]
      exact hn s e
    · intro f' t s ht e hn2
      obtain ⟨r1, r2⟩ := alkI_q (A := A) (a := i) q1 (by omega) t (by omega)
      obtain ⟨p, p1, p2, p3, p4, -⟩ := c_personOf hs hC.1.2.1 hi
      obtain ⟨q, u1, u2, u3, u4, -⟩ := c_personOf hs hC.1.2.1 (show i + 1 + t < tP (aT A) by omega)
      have es : alkI A i (alkO A i) (t + 1) = alkP A i (i + 1 + t) (alkI A i (alkO A i) t) := rfl
      unfold alkP at es
      generalize alkI A i (alkO A i) t = X at *
      subst e
      show L_X1_alike_30 M b y (Int32.ofNat i) _ (f' + 1) _ _ (Int32.ofNat (i + 1 + t)) = _
      simp -implicitDefEqProofs only [L_X1_alike_30, ↓xgI_u, ↓xpI_u, ↓xaI_u, ↓xsI_u, ↓xrk_u, ↓xrk0_u, ↓xob_v, ↓xmb_v, ↓xth_v, ↓xth_x, ↓jn_u, ↓xlen_u, ↓xaL_u, ↓xsL_u, ↓xbl_0, ↓xbl_1, eq_self, inb_n, inb_d, Sh_PI, Sh_PL, dk_PI, dk_PL, dr_PI, dr_PL, ↓reduceIte, Int32.reduceLE, Int32.reduceLT, Int32.reduceToNatClampNeg, Nat.reduceLT, Nat.reduceLeDiff, Nat.reduceEqDiff, Nat.reduceAdd, Nat.reduceMul, kd0 hs, hp, i_geF (show i + 1 + t < tP (aT A) by omega) (by omega), if_false, p1, p2, hs6, p4, u1, u2, u4, i_succ, x_10]
      by_cases hc : tpe (aT A) i 1 = tpe (aT A) (i + 1 + t) 1
      · rw [if_pos hc]
        rw [if_pos hc] at es
        by_cases h0 : X.1 = 0
        · rw [if_pos h0] at es
          rw [if_pos (r1.mp h0)]
          exact hn2 (_, _) (by rw [es]; rfl)
        · rw [if_neg h0] at es
          rw [if_neg (fun q => h0 (r1.mpr q))]
          exact hn2 (_, _) (by rw [es]; rfl)
      · rw [if_neg hc]
        rw [if_neg hc] at es
        exact hn2 (_, _) (by rw [es]; rfl)
theorem T_alike {y : Int32} (hT : TInv b M A) (hy : inV y 0 1 = 1) : ∃ M2, m_X10_alike M (b + 54) y = some (alkV A y, M2) ∧ fr (tSc b) nz 0 0 (dwPI M (b + 54) 44 0) M2 := by
  have o1 := hT.1.ok.1.1
  obtain ⟨hT0, fz, z0⟩ := tinv_z hT
  have hs0 := hT0.1.1
  refine ⟨_, ?_, fr.refl _⟩
  simp -implicitDefEqProofs only [m_X10_alike, ↓gp0_2, ↓gp0_3, ↓gp0_4, ↓gp0_5, ↓gp0_6, ↓gp0_7, ↓gp0_8, ↓gp0_9, ↓gp0_10, ↓gp0_18, ↓gp0_19, ↓gp0_20, ↓gp0_22, ↓gp23_43, ↓gp23_32, ↓gp23_33, ↓gp23_34, ↓gp23_35, ↓gp23_36, ↓gp29_43, ↓gp29_32, ↓gp29_33, ↓gp29_34, ↓gp29_35, ↓gp29_36, ↓gp54_53, ↓gp54_54, ↓gp54_55, ↓gp54_56, ↓gp54_57, ↓gp54_58, ↓gp54_59, ↓gp54_60, ↓gp54_61, ↓gp54_62, ↓gp54_65, ↓gp54_66, ↓gp54_67, ↓gp54_68, ↓gp54_69, ↓gp54_70, ↓gp54_71, ↓gp54_73, ↓gp54_74, ↓gp54_75, ↓gp54_76, ↓gp54_84, ↓gp54_85, ↓gp54_87, ↓gp54_88, ↓xr59, kr59, ↓xr67, kr67, ↓xr75, kr75, ↓xr82, kr82, ↓xr89, kr89, ↓xr102, kr102, ↓xr115, kr115, ↓xr276, kr276, ↓xr437, kr437, ↓xr444, kr444, ↓xr453, kr453, ↓xr536, kr536, ↓xr553, kr553, hs0, hw0, hs1, hw1, hs2, hw2, hs3, hw3, hs4, hw4, hs5, hw5, hs6, hw6, hs7, hw7, hs8, hw8, hs9, hw9, hs10, hw10, hs11, hw11, hs12, hw12, hs13, hw13, hs14, hw14, hs15, hw15, hs16, hw16, hs17, hw17, hs18, hw18, hs19, hw19, hs20, hw20, hs21, hw21, hs22, hw22, hs23, hw23, hs25, hw25, hs26, hw26, hs27, hw27, hs28, hw28, hs9b, hw9b, hs10b, hw10b, kd0, kd20, kd21, kd22, kd23, kd24, kd25, kd26, kd27, kd28, kd29, kd30, kd31, kd32, kd33, kd34, kd35, kd36, kd37, kd38, kd39, kd40, kd41, kd42, kd54, kd55, kd56, kd57, kd58, kd59, kd67, kd75, kd82, kd89, kd102, kd115, kd276, kd437, kd444, kd451, kd452, kd453, kd534, kd535, kd536, kd553, kd557, kd558, kd559, kd560, kd561, ↓xgI_u, ↓xpI_u, ↓xaI_u, ↓xsI_u, ↓xrk_u, ↓xrk0_u, ↓xob_v, ↓xmb_v, ↓xth_v, ↓xth_x, ↓jn_u, ↓xlen_u, ↓xaL_u, ↓xsL_u, ↓xbl_0, ↓xbl_1, eq_self, inb_n, inb_d, Sh_PI, Sh_PL, dk_PI, dk_PL, dr_PI, dr_PL, ↓reduceIte, Int32.reduceLE, Int32.reduceLT, Int32.reduceToNatClampNeg, Nat.reduceLT, Nat.reduceLeDiff, Nat.reduceEqDiff, Nat.reduceAdd, Nat.reduceMul, hT.1.1, e10, t_bad0 hs0 z0, t_in, hy]
  generalize dwPI M (b + 54) 44 0 = M0 at *
  have hp := hT0.1.2.1.1
  generalize hK : (fun (y7 : Int32) (y8 : Int32) => if y = 0 then some (y7, M0) else some (y8, M0)) = K
  refine lpx (E := fun x => x = some (alkV A y, M0)) (fun f i (s : Int32 × Int32) => L_X10_alike_37 M0 (b + 54) y K f s.1 s.2 (Int32.ofNat i)) (tP (aT A)) (fun i s => s = (Int32.ofNat (alkO A i).1, (alkO A i).2)) ?_ ?_ 1000000 0 (0, -1) (by omega) (by omega) rfl
  · intro f s e
    simp -implicitDefEqProofs only [L_X10_alike_37, ↓gp0_2, ↓gp0_3, ↓gp0_4, ↓gp0_5, ↓gp0_6, ↓gp0_7, ↓gp0_8, ↓gp0_9, ↓gp0_10, ↓gp0_18, ↓gp0_19, ↓gp0_20, ↓gp0_22, ↓gp23_43, ↓gp23_32, ↓gp23_33, ↓gp23_34, ↓gp23_35, ↓gp23_36, ↓gp29_43, ↓gp29_32, ↓gp29_33, ↓gp29_34, ↓gp29_35, ↓gp29_36, ↓gp54_53, ↓gp54_54, ↓gp54_55, ↓gp54_56, ↓gp54_57, ↓gp54_58, ↓gp54_59, ↓gp54_60, ↓gp54_61, ↓gp54_62, ↓gp54_65, ↓gp54_66, ↓gp54_67, ↓gp54_68, ↓gp54_69, ↓gp54_70, ↓gp54_71, ↓gp54_73, ↓gp54_74, ↓gp54_75, ↓gp54_76, ↓gp54_84, ↓gp54_85, ↓gp54_87, ↓gp54_88, ↓xr59, kr59, ↓xr67, kr67, ↓xr75, kr75, ↓xr82, kr82, ↓xr89, kr89, ↓xr102, kr102, ↓xr115, kr115, ↓xr276, kr276, ↓xr437, kr437, ↓xr444, kr444, ↓xr453, kr453, ↓xr536, kr536, ↓xr553, kr553, hs0, hw0, hs1, hw1, hs2, hw2, hs3, hw3, hs4, hw4, hs5, hw5, hs6, hw6, hs7, hw7, hs8, hw8, hs9, hw9, hs10, hw10, hs11, hw11, hs12, hw12, hs13, hw13, hs14, hw14, hs15, hw15, hs16, hw16, hs17, hw17, hs18, hw18, hs19, hw19, hs20, hw20, hs21, hw21, hs22, hw22, hs23, hw23, hs25, hw25, hs26, hw26, hs27, hw27, hs28, hw28, hs9b, hw9b, hs10b, hw10b, kd0, kd20, kd21, kd22, kd23, kd24, kd25, kd26, kd27, kd28, kd29, kd30, kd31, kd32, kd33, kd34, kd35, kd36, kd37, kd38, kd39, kd40, kd41, kd42, kd54, kd55, kd56, kd57, kd58, kd59, kd67, kd75, kd82, kd89, kd102, kd115, kd276, kd437, kd444, kd451, kd452, kd453, kd534, kd535, kd536, kd553, kd557, kd558, kd559, kd560, kd561, ↓xgI_u, ↓xpI_u, ↓xaI_u, ↓xsI_u, ↓xrk_u, ↓xrk0_u, ↓xob_v, ↓xmb_v, ↓xth_v, ↓xth_x, ↓jn_u, ↓xlen_u, ↓xaL_u, ↓xsL_u, ↓xbl_0, ↓xbl_1, eq_self, inb_n, inb_d, Sh_PI, Sh_PL, dk_PI, dk_PL, dr_PI, dr_PL, ↓reduceIte, Int32.reduceLE, Int32.reduceLT, Int32.reduceToNatClampNeg, Nat.reduceLT, Nat.reduceLeDiff, Nat.reduceEqDiff, Nat.reduceAdd, Nat.reduceMul, hs0, hp, i_geT, if_true]
    unfold alkV
    rw [e, ← hK]
    by_cases h : y = 0
    · simp only [h, if_true]
    · simp only [h, if_false]
  · intro f i s hi e hn
    obtain ⟨q1, q2⟩ := alkO_q A o1 i (by omega)
    have hi7 : i < 7 := by omega
    show L_X10_alike_37 M0 (b + 54) y K (f + 1) s.1 s.2 (Int32.ofNat i) = _
    rw [L_X10_alike_37]
    simp only [↓gp0_2, ↓gp0_3, ↓gp0_4, ↓gp0_5, ↓gp0_6, ↓gp0_7, ↓gp0_8, ↓gp0_9, ↓gp0_10, ↓gp0_18, ↓gp0_19, ↓gp0_20, ↓gp0_22, ↓gp23_43, ↓gp23_32, ↓gp23_33, ↓gp23_34, ↓gp23_35, ↓gp23_36, ↓gp29_43, ↓gp29_32, ↓gp29_33, ↓gp29_34, ↓gp29_35, ↓gp29_36, ↓gp54_53, ↓gp54_54, ↓gp54_55, ↓gp54_56, ↓gp54_57, ↓gp54_58, ↓gp54_59, ↓gp54_60, ↓gp54_61, ↓gp54_62, ↓gp54_65, ↓gp54_66, ↓gp54_67, ↓gp54_68, ↓gp54_69, ↓gp54_70, ↓gp54_71, ↓gp54_73, ↓gp54_74, ↓gp54_75, ↓gp54_76, ↓gp54_84, ↓gp54_85, ↓gp54_87, ↓gp54_88, ↓xr59, kr59, ↓xr67, kr67, ↓xr75, kr75, ↓xr82, kr82, ↓xr89, kr89, ↓xr102, kr102, ↓xr115, kr115, ↓xr276, kr276, ↓xr437, kr437, ↓xr444, kr444, ↓xr453, kr453, ↓xr536, kr536, ↓xr553, kr553, hs0, hw0, hs1, hw1, hs2, hw2, hs3, hw3, hs4, hw4, hs5, hw5, hs6, hw6, hs7, hw7, hs8, hw8, hs9, hw9, hs10, hw10, hs11, hw11, hs12, hw12, hs13, hw13, hs14, hw14, hs15, hw15, hs16, hw16, hs17, hw17, hs18, hw18, hs19, hw19, hs20, hw20, hs21, hw21, hs22, hw22, hs23, hw23, hs25, hw25, hs26, hw26, hs27, hw27, hs28, hw28, hs9b, hw9b, hs10b, hw10b, kd0, kd20, kd21, kd22, kd23, kd24, kd25, kd26, kd27, kd28, kd29, kd30, kd31, kd32, kd33, kd34, kd35, kd36, kd37, kd38, kd39, kd40, kd41, kd42, kd54, kd55, kd56, kd57, kd58, kd59, kd67, kd75, kd82, kd89, kd102, kd115, kd276, kd437, kd444, kd451, kd452, kd453, kd534, kd535, kd536, kd553, kd557, kd558, kd559, kd560, kd561, ↓xgI_u, ↓xpI_u, ↓xaI_u, ↓xsI_u, ↓xrk_u, ↓xrk0_u, ↓xob_v, ↓xmb_v, ↓xth_v, ↓xth_x, ↓jn_u, ↓xlen_u, ↓xaL_u, ↓xsL_u, ↓xbl_0, ↓xbl_1, eq_self, inb_n, inb_d, Sh_PI, Sh_PL, dk_PI, dk_PL, dr_PI, dr_PL, ↓reduceIte, Int32.reduceLE, Int32.reduceLT, Int32.reduceToNatClampNeg, Nat.reduceLT, Nat.reduceLeDiff, Nat.reduceEqDiff, Nat.reduceAdd, Nat.reduceMul, hs0, hp, i_geF hi (by omega), if_false, i_succ]
    refine lpx (E := fun x => x = some (alkV A y, M0)) (fun f' t (s : Int32 × Int32) => L_X10_alike_54 M0 (b + 54) y (Int32.ofNat i) (fun (y7 : Int32) (y8 : Int32) => L_X10_alike_37 M0 (b + 54) y K f y7 y8 (Int32.ofNat (i + 1))) f' s.1 s.2 (Int32.ofNat (i + 1 + t))) (tP (aT A) - (i + 1)) (fun t s => s = (Int32.ofNat (alkI A i (alkO A i) t).1, (alkI A i (alkO A i) t).2)) ?_ ?_ 1000000 0 s (by omega) (by omega) e
    · intro f' s e
      show L_X10_alike_54 M0 (b + 54) y (Int32.ofNat i) _ (f' + 1) s.1 s.2 (Int32.ofNat (i + 1 + (tP (aT A) - (i + 1)))) = _
      rw [show i + 1 + (tP (aT A) - (i + 1)) = tP (aT A) by omega]
      simp -implicitDefEqProofs only [L_X10_alike_54, ↓gp0_2, ↓gp0_3, ↓gp0_4, ↓gp0_5, ↓gp0_6, ↓gp0_7, ↓gp0_8, ↓gp0_9, ↓gp0_10, ↓gp0_18, ↓gp0_19, ↓gp0_20, ↓gp0_22, ↓gp23_43, ↓gp23_32, ↓gp23_33, ↓gp23_34, ↓gp23_35, ↓gp23_36, ↓gp29_43, ↓gp29_32, ↓gp29_33, ↓gp29_34, ↓gp29_35, ↓gp29_36, ↓gp54_53, ↓gp54_54, ↓gp54_55, ↓gp54_56, ↓gp54_57, ↓gp54_58, ↓gp54_59, ↓gp54_60, ↓gp54_61, ↓gp54_62, ↓gp54_65, ↓gp54_66, ↓gp54_67, ↓gp54_68, ↓gp54_69, ↓gp54_70, ↓gp54_71, ↓gp54_73, ↓gp54_74, ↓gp54_75, ↓gp54_76, ↓gp54_84, ↓gp54_85, ↓gp54_87, ↓gp54_88, ↓xr59, kr59, ↓xr67, kr67, ↓xr75, kr75, ↓xr82, kr82, ↓xr89, kr89, ↓xr102, kr102, ↓xr115, kr115, ↓xr276, kr276, ↓xr437, kr437, ↓xr444, kr444, ↓xr453, kr453, ↓xr536, kr536, ↓xr553, kr553, hs0, hw0, hs1, hw1, hs2, hw2, hs3, hw3, hs4, hw4, hs5, hw5, hs6, hw6, hs7, hw7, hs8, hw8, hs9, hw9, hs10, hw10, hs11, hw11, hs12, hw12, hs13, hw13, hs14, hw14, hs15, hw15, hs16, hw16, hs17, hw17, hs18, hw18, hs19, hw19, hs20, hw20, hs21, hw21, hs22, hw22, hs23, hw23, hs25, hw25, hs26, hw26, hs27, hw27, hs28, hw28, hs9b, hw9b, hs10b, hw10b, kd0, kd20, kd21, kd22, kd23, kd24, kd25, kd26, kd27, kd28, kd29, kd30, kd31, kd32, kd33, kd34, kd35, kd36, kd37, kd38, kd39, kd40, kd41, kd42, kd54, kd55, kd56, kd57, kd58, kd59, kd67, kd75, kd82, kd89, kd102, kd115, kd276, kd437, kd444, kd451, kd452, kd453, kd534, kd535, kd536, kd553, kd557, kd558, kd559, kd560, kd561, ↓xgI_u, ↓xpI_u, ↓xaI_u, ↓xsI_u, ↓xrk_u, ↓xrk0_u, ↓xob_v, ↓xmb_v, ↓xth_v, ↓xth_x, ↓jn_u, ↓xlen_u, ↓xaL_u, ↓xsL_u, ↓xbl_0, ↓xbl_1, eq_self, inb_n, inb_d, Sh_PI, Sh_PL, dk_PI, dk_PL, dr_PI, dr_PL, ↓reduceIte, Int32.reduceLE, Int32.reduceLT, Int32.reduceToNatClampNeg, Nat.reduceLT, Nat.reduceLeDiff, Nat.reduceEqDiff, Nat.reduceAdd, Nat.reduceMul, hs0, hp, i_geT, if_true]
      exact hn s e
    · intro f' t s ht e hn2
      obtain ⟨r1, r2⟩ := alkI_q (A := A) (a := i) q1 (by omega) t (by omega)
      have ht7 : i + 1 + t < 7 := by omega
      have v1 := hT0.1.2.1.2.2.2.2.2.1 i 1 hi (by omega)
      have v2 := hT0.1.2.1.2.2.2.2.2.1 (i + 1 + t) 1 (by omega) (by omega)
      have es : alkI A i (alkO A i) (t + 1) = alkP A i (i + 1 + t) (alkI A i (alkO A i) t) := rfl
      unfold alkP at es
      generalize alkI A i (alkO A i) t = X at *
      subst e
      show L_X10_alike_54 M0 (b + 54) y (Int32.ofNat i) _ (f' + 1) _ _ (Int32.ofNat (i + 1 + t)) = _
      simp -implicitDefEqProofs only [L_X10_alike_54, ↓gp0_2, ↓gp0_3, ↓gp0_4, ↓gp0_5, ↓gp0_6, ↓gp0_7, ↓gp0_8, ↓gp0_9, ↓gp0_10, ↓gp0_18, ↓gp0_19, ↓gp0_20, ↓gp0_22, ↓gp23_43, ↓gp23_32, ↓gp23_33, ↓gp23_34, ↓gp23_35, ↓gp23_36, ↓gp29_43, ↓gp29_32, ↓gp29_33, ↓gp29_34, ↓gp29_35, ↓gp29_36, ↓gp54_53, ↓gp54_54, ↓gp54_55, ↓gp54_56, ↓gp54_57, ↓gp54_58, ↓gp54_59, ↓gp54_60, ↓gp54_61, ↓gp54_62, ↓gp54_65, ↓gp54_66, ↓gp54_67, ↓gp54_68, ↓gp54_69, ↓gp54_70, ↓gp54_71, ↓gp54_73, ↓gp54_74, ↓gp54_75, ↓gp54_76, ↓gp54_84, ↓gp54_85, ↓gp54_87, ↓gp54_88, ↓xr59, kr59, ↓xr67, kr67, ↓xr75, kr75, ↓xr82, kr82, ↓xr89, kr89, ↓xr102, kr102, ↓xr115, kr115, ↓xr276, kr276, ↓xr437, kr437, ↓xr444, kr444, ↓xr453, kr453, ↓xr536, kr536, ↓xr553, kr553, hs0, hw0, hs1, hw1, hs2, hw2, hs3, hw3, hs4, hw4, hs5, hw5, hs6, hw6, hs7, hw7, hs8, hw8, hs9, hw9, hs10, hw10, hs11, hw11, hs12, hw12, hs13, hw13, hs14, hw14, hs15, hw15, hs16, hw16, hs17, hw17, hs18, hw18, hs19, hw19, hs20, hw20, hs21, hw21, hs22, hw22, hs23, hw23, hs25, hw25, hs26, hw26, hs27, hw27, hs28, hw28, hs9b, hw9b, hs10b, hw10b, kd0, kd20, kd21, kd22, kd23, kd24, kd25, kd26, kd27, kd28, kd29, kd30, kd31, kd32, kd33, kd34, kd35, kd36, kd37, kd38, kd39, kd40, kd41, kd42, kd54, kd55, kd56, kd57, kd58, kd59, kd67, kd75, kd82, kd89, kd102, kd115, kd276, kd437, kd444, kd451, kd452, kd453, kd534, kd535, kd536, kd553, kd557, kd558, kd559, kd560, kd561, ↓xgI_u, ↓xpI_u, ↓xaI_u, ↓xsI_u, ↓xrk_u, ↓xrk0_u, ↓xob_v, ↓xmb_v, ↓xth_v, ↓xth_x, ↓jn_u, ↓xlen_u, ↓xaL_u, ↓xsL_u, ↓xbl_0, ↓xbl_1, eq_self, inb_n, inb_d, Sh_PI, Sh_PL, dk_PI, dk_PL, dr_PI, dr_PL, ↓reduceIte, Int32.reduceLE, Int32.reduceLT, Int32.reduceToNatClampNeg, Nat.reduceLT, Nat.reduceLeDiff, Nat.reduceEqDiff, Nat.reduceAdd, Nat.reduceMul, hs0, hp, i_geF (show i + 1 + t < tP (aT A) by omega) (by omega), if_false, hi7, ht7, v1, v2, i_succ, x_10]
      by_cases hc : tpe (aT A) i 1 = tpe (aT A) (i + 1 + t) 1
      · rw [if_pos hc]
        rw [if_pos hc] at es
        by_cases h0 : X.1 = 0
        · rw [if_pos h0] at es
          rw [if_pos (by rw [h0]; rfl)]
          exact hn2 (_, _) (by rw [es]; rfl)
        · rw [if_neg h0] at es
          rw [if_neg (by rw [← i_zero, i_inj (by omega) (by omega)]; exact h0)]
          exact hn2 (_, _) (by rw [es]; rfl)
      · rw [if_neg hc]
        rw [if_neg hc] at es
        exact hn2 (_, _) (by rw [es]; rfl)
end CALL
