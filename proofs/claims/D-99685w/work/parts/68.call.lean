/-! restore: the component's run; the twin takes all back -/
section CALL
variable {b : Nat} {w : Nat → Nat} {M : dwSt} {A : dvA}
theorem C_restore (hC : CInv b w M A) (hR : room M 96 1312) (h0 : ¬ (aIm A).1 = 0) : ∃ M2 w', m_X1_restore M b = some (Int32.ofNat (rsJ A), M2) ∧ CInv b w' M2 (aRest A) ∧ fr (sRs b w') (zRs b) 96 1312 M M2 := by
  have hs := hC.1.sh
  have hn := shN hs
  have o := hC.1.ok
  have o6 := o.2.2.2.2.2.1
  have hj : rsJ A < (aIm A).1 := by unfold rsJ; omega
  have o7 := (o.2.2.2.2.2.2.1 _ hj).1
  have hj3 : rsJ A < 3 := by omega
  obtain ⟨s, M1, s1, e, g1, g2, g3, h⟩ := rsI_0 hC h0
  have z0 : (Int32.ofNat (aIm A).1 = 0) = False := by rw [x_z0 (by omega)]; exact eq_false h0
  have ej : Int32.ofNat (aIm A).1 - 1 = Int32.ofNat (rsJ A) := x_sub1 h0
  have shA : Sh b (dwPI M b 17 (Int32.ofNat (rsJ A))) := hs
  have ar : ∀ {ρ : Type} (K : Nat → Option ρ), xaR (dwPI M b 17 (Int32.ofNat (rsJ A))) 5 (b + 36) (Int32.ofNat (rsJ A)) K = K s := fun K => xaR_v (kd36 shA) hj3 (by omega) s1 K
  have hb17 : dwK (dwPI M b 17 (Int32.ofNat (rsJ A))) (b + 23) = (0, 2) := kd23 shA
  simp -implicitDefEqProofs only [m_X1_restore, ↓gp0_2, ↓gp0_3, ↓gp0_4, ↓gp0_5, ↓gp0_6, ↓gp0_7, ↓gp0_8, ↓gp0_9, ↓gp0_10, ↓gp0_18, ↓gp0_19, ↓gp0_20, ↓gp0_22, ↓gp23_43, ↓gp23_32, ↓gp23_33, ↓gp23_34, ↓gp23_35, ↓gp23_36, ↓gp29_43, ↓gp29_32, ↓gp29_33, ↓gp29_34, ↓gp29_35, ↓gp29_36, ↓gp54_53, ↓gp54_54, ↓gp54_55, ↓gp54_56, ↓gp54_57, ↓gp54_58, ↓gp54_59, ↓gp54_60, ↓gp54_61, ↓gp54_62, ↓gp54_65, ↓gp54_66, ↓gp54_67, ↓gp54_68, ↓gp54_69, ↓gp54_70, ↓gp54_71, ↓gp54_73, ↓gp54_74, ↓gp54_75, ↓gp54_76, ↓gp54_84, ↓gp54_85, ↓gp54_87, ↓gp54_88, ↓xr59, kr59, ↓xr67, kr67, ↓xr75, kr75, ↓xr82, kr82, ↓xr89, kr89, ↓xr102, kr102, ↓xr115, kr115, ↓xr276, kr276, ↓xr437, kr437, ↓xr444, kr444, ↓xr453, kr453, ↓xr536, kr536, ↓xr553, kr553, hs0, hw0, hs1, hw1, hs2, hw2, hs3, hw3, hs4, hw4, hs5, hw5, hs6, hw6, hs7, hw7, hs8, hw8, hs9, hw9, hs10, hw10, hs11, hw11, hs12, hw12, hs13, hw13, hs14, hw14, hs15, hw15, hs16, hw16, hs17, hw17, hs18, hw18, hs19, hw19, hs20, hw20, hs21, hw21, hs22, hw22, hs23, hw23, hs25, hw25, hs26, hw26, hs27, hw27, hs28, hw28, hs9b, hw9b, hs10b, hw10b, kd0, kd20, kd21, kd22, kd23, kd24, kd25, kd26, kd27, kd28, kd29, kd30, kd31, kd32, kd33, kd34, kd35, kd36, kd37, kd38, kd39, kd40, kd41, kd42, kd54, kd55, kd56, kd57, kd58, kd59, kd67, kd75, kd82, kd89, kd102, kd115, kd276, kd437, kd444, kd451, kd452, kd453, kd534, kd535, kd536, kd553, kd557, kd558, kd559, kd560, kd561, ↓xgI_u, ↓xpI_u, ↓xaI_u, ↓xsI_u, ↓xrk_u, ↓xrk0_u, ↓xob_v, ↓xmb_v, ↓xth_v, ↓xth_x, ↓jn_u, ↓xlen_u, ↓xaL_u, ↓xsL_u, ↓xbl_0, ↓xbl_1, eq_self, inb_n, inb_d, Sh_PI, Sh_PL, dk_PI, dk_PL, dr_PI, dr_PL, ↓reduceIte, Int32.reduceLE, Int32.reduceLT, Int32.reduceToNatClampNeg, Nat.reduceLT, Nat.reduceLeDiff, Nat.reduceEqDiff, Nat.reduceAdd, Nat.reduceMul, hs, hC.1.im.1, z0, if_false, ej, di_PI, and_self, if_true, ar, hb17, e, g1, g2, kd38 g1, hj3, i_nat (show rsJ A < 2147483648 by omega), g3]
  refine lpx (E := fun z => ∃ M2 w', z = some (Int32.ofNat (rsJ A), M2) ∧ CInv b w' M2 (aRest A) ∧ fr (sRs b w') (zRs b) 96 1312 M M2) (fun f r (M1 : dwSt) => L_X1_restore_51 b (fun (M14 : dwSt) => xpI M14 12 b 0 (fun M15 => xgI M15 17 b (fun v16 => some (v16, M15)))) f (Int32.ofNat r) M1) ((aIm A).2.1 (rsJ A)) (fun r M1 => rsI b w M A r M1) ?_ ?_ 1000000 0 _ (by omega) (by omega) h
  · intro f M3 h3
    obtain ⟨w', k1, k2⟩ := rsI_end hC h0 h3
    obtain ⟨w3, -, f3, -, -, -, -, e11, e17⟩ := h3
    have q1 := hs.fr f3 zRs_p
    refine ⟨_, w', ?_, k1, k2⟩
    simp -implicitDefEqProofs only [L_X1_restore_51, ↓gp0_2, ↓gp0_3, ↓gp0_4, ↓gp0_5, ↓gp0_6, ↓gp0_7, ↓gp0_8, ↓gp0_9, ↓gp0_10, ↓gp0_18, ↓gp0_19, ↓gp0_20, ↓gp0_22, ↓gp23_43, ↓gp23_32, ↓gp23_33, ↓gp23_34, ↓gp23_35, ↓gp23_36, ↓gp29_43, ↓gp29_32, ↓gp29_33, ↓gp29_34, ↓gp29_35, ↓gp29_36, ↓gp54_53, ↓gp54_54, ↓gp54_55, ↓gp54_56, ↓gp54_57, ↓gp54_58, ↓gp54_59, ↓gp54_60, ↓gp54_61, ↓gp54_62, ↓gp54_65, ↓gp54_66, ↓gp54_67, ↓gp54_68, ↓gp54_69, ↓gp54_70, ↓gp54_71, ↓gp54_73, ↓gp54_74, ↓gp54_75, ↓gp54_76, ↓gp54_84, ↓gp54_85, ↓gp54_87, ↓gp54_88, ↓xr59, kr59, ↓xr67, kr67, ↓xr75, kr75, ↓xr82, kr82, ↓xr89, kr89, ↓xr102, kr102, ↓xr115, kr115, ↓xr276, kr276, ↓xr437, kr437, ↓xr444, kr444, ↓xr453, kr453, ↓xr536, kr536, ↓xr553, kr553, hs0, hw0, hs1, hw1, hs2, hw2, hs3, hw3, hs4, hw4, hs5, hw5, hs6, hw6, hs7, hw7, hs8, hw8, hs9, hw9, hs10, hw10, hs11, hw11, hs12, hw12, hs13, hw13, hs14, hw14, hs15, hw15, hs16, hw16, hs17, hw17, hs18, hw18, hs19, hw19, hs20, hw20, hs21, hw21, hs22, hw22, hs23, hw23, hs25, hw25, hs26, hw26, hs27, hw27, hs28, hw28, hs9b, hw9b, hs10b, hw10b, kd0, kd20, kd21, kd22, kd23, kd24, kd25, kd26, kd27, kd28, kd29, kd30, kd31, kd32, kd33, kd34, kd35, kd36, kd37, kd38, kd39, kd40, kd41, kd42, kd54, kd55, kd56, kd57, kd58, kd59, kd67, kd75, kd82, kd89, kd102, kd115, kd276, kd437, kd444, kd451, kd452, kd453, kd534, kd535, kd536, kd553, kd557, kd558, kd559, kd560, kd561, ↓xgI_u, ↓xpI_u, ↓xaI_u, ↓xsI_u, ↓xrk_u, ↓xrk0_u, ↓xob_v, ↓xmb_v, ↓xth_v, ↓xth_x, ↓jn_u, ↓xlen_u, ↓xaL_u, ↓xsL_u, ↓xbl_0, ↓xbl_1, eq_self, inb_n, inb_d, Sh_PI, Sh_PL, dk_PI, dk_PL, dr_PI, dr_PL, ↓reduceIte, Int32.reduceLE, Int32.reduceLT, Int32.reduceToNatClampNeg, Nat.reduceLT, Nat.reduceLeDiff, Nat.reduceEqDiff, Nat.reduceAdd, Nat.reduceMul, q1, e11, i_geT, if_true, di_PI, show ¬ (17 = 12) by omega, and_false, if_false, e17]
  · intro f r M3 hr h3 hnx
    obtain ⟨s', M4, t1, t2, t3⟩ := rsI_s hC hR h0 hr h3
    obtain ⟨w3, -, f3, -, -, -, -, e11, e17⟩ := h3
    have q1 := hs.fr f3 zRs_p
    have ar2 : ∀ {ρ : Type} (K : Nat → Option ρ), xaR M3 5 (b + 37) (Int32.ofNat (16 * rsJ A + r)) K = K s' := fun K => xaR_v (kd37 q1) (by omega) (by omega) t1 K
    have e16 : (16 : Int32) * Int32.ofNat (rsJ A) = Int32.ofNat (16 * rsJ A) := i_mul 16 _
    simp -implicitDefEqProofs only [L_X1_restore_51, ↓gp0_2, ↓gp0_3, ↓gp0_4, ↓gp0_5, ↓gp0_6, ↓gp0_7, ↓gp0_8, ↓gp0_9, ↓gp0_10, ↓gp0_18, ↓gp0_19, ↓gp0_20, ↓gp0_22, ↓gp23_43, ↓gp23_32, ↓gp23_33, ↓gp23_34, ↓gp23_35, ↓gp23_36, ↓gp29_43, ↓gp29_32, ↓gp29_33, ↓gp29_34, ↓gp29_35, ↓gp29_36, ↓gp54_53, ↓gp54_54, ↓gp54_55, ↓gp54_56, ↓gp54_57, ↓gp54_58, ↓gp54_59, ↓gp54_60, ↓gp54_61, ↓gp54_62, ↓gp54_65, ↓gp54_66, ↓gp54_67, ↓gp54_68, ↓gp54_69, ↓gp54_70, ↓gp54_71, ↓gp54_73, ↓gp54_74, ↓gp54_75, ↓gp54_76, ↓gp54_84, ↓gp54_85, ↓gp54_87, ↓gp54_88, ↓xr59, kr59, ↓xr67, kr67, ↓xr75, kr75, ↓xr82, kr82, ↓xr89, kr89, ↓xr102, kr102, ↓xr115, kr115, ↓xr276, kr276, ↓xr437, kr437, ↓xr444, kr444, ↓xr453, kr453, ↓xr536, kr536, ↓xr553, kr553, hs0, hw0, hs1, hw1, hs2, hw2, hs3, hw3, hs4, hw4, hs5, hw5, hs6, hw6, hs7, hw7, hs8, hw8, hs9, hw9, hs10, hw10, hs11, hw11, hs12, hw12, hs13, hw13, hs14, hw14, hs15, hw15, hs16, hw16, hs17, hw17, hs18, hw18, hs19, hw19, hs20, hw20, hs21, hw21, hs22, hw22, hs23, hw23, hs25, hw25, hs26, hw26, hs27, hw27, hs28, hw28, hs9b, hw9b, hs10b, hw10b, kd0, kd20, kd21, kd22, kd23, kd24, kd25, kd26, kd27, kd28, kd29, kd30, kd31, kd32, kd33, kd34, kd35, kd36, kd37, kd38, kd39, kd40, kd41, kd42, kd54, kd55, kd56, kd57, kd58, kd59, kd67, kd75, kd82, kd89, kd102, kd115, kd276, kd437, kd444, kd451, kd452, kd453, kd534, kd535, kd536, kd553, kd557, kd558, kd559, kd560, kd561, ↓xgI_u, ↓xpI_u, ↓xaI_u, ↓xsI_u, ↓xrk_u, ↓xrk0_u, ↓xob_v, ↓xmb_v, ↓xth_v, ↓xth_x, ↓jn_u, ↓xlen_u, ↓xaL_u, ↓xsL_u, ↓xbl_0, ↓xbl_1, eq_self, inb_n, inb_d, Sh_PI, Sh_PL, dk_PI, dk_PL, dr_PI, dr_PL, ↓reduceIte, Int32.reduceLE, Int32.reduceLT, Int32.reduceToNatClampNeg, Nat.reduceLT, Nat.reduceLeDiff, Nat.reduceEqDiff, Nat.reduceAdd, Nat.reduceMul, q1, e11, i_geF hr (by omega), if_false, e17, e16, i_add, ar2, t2, i_succ]
    exact hnx M4 t3
end CALL
def sTk (b : Nat) : Nat → Nat → Prop := fun a k => (a = b + 54 ∧ (k = 78 ∨ k = 81)) ∨ a = b + 534 ∨ (b + 537 ≤ a ∧ a ≤ b + 552)
section TAKE
variable {b i : Nat} {M0 M1 : dwSt} {ρ : Type}
def cel (b q : Nat) : Nat × Nat := if q = 0 then (b + 54, 78) else if q < 80 then (b + 534, q - 1) else (b + 537 + (q - 80) / 79, (q - 80) % 79)
theorem cel_n {k : Nat} (hk : k < 79) : cel b (1 + k) = (b + 534, k) := by
  unfold cel; rw [if_neg (by omega), if_pos (by omega), show 1 + k - 1 = k by omega]
theorem cel_r {r k : Nat} (hk : k < 79) : cel b (80 + 79 * r + k) = (b + 537 + r, k) := by
  unfold cel; rw [if_neg (by omega), if_neg (by omega), show (80 + 79 * r + k - 80) / 79 = r by omega, show (80 + 79 * r + k - 80) % 79 = k by omega]
/-- the first q cells are as the image i has them -/
def tkT (b : Nat) (M0 : dwSt) (i q : Nat) (M1 : dwSt) : Prop := fr (sTk b) nz 0 0 M0 M1 ∧ dwI M1 (b + 54) 81 = Int32.ofNat q ∧ (∀ a k, (∀ j, j < q → cel b j ≠ (a, k)) → (a = b + 54 → k ≠ 81) → a < b + 554 → b ≤ a → dwI M1 a k = dwI M0 a k) ∧ ∀ j, j < q → dwI M1 (cel b j).1 (cel b j).2 = dwI M0 (b + 554 + i) j
theorem cel_b {q : Nat} (hq : q < 1344) : sTk b (cel b q).1 (cel b q).2 ∧ ((cel b q).1 = b + 54 → (cel b q).2 ≠ 81) ∧ b ≤ (cel b q).1 ∧ (cel b q).1 < b + 554 := by
  unfold cel sTk
  by_cases h1 : q = 0
  · rw [if_pos h1]; exact ⟨Or.inl ⟨rfl, Or.inl rfl⟩, fun _ => by show 78 ≠ 81; omega, by show b ≤ b + 54; omega, by show b + 54 < b + 554; omega⟩
  · by_cases h2 : q < 80
    · rw [if_neg h1, if_pos h2]
      exact ⟨Or.inr (Or.inl rfl), fun e => by have : b + 534 = b + 54 := e; omega, by show b ≤ b + 534; omega, by show b + 534 < b + 554; omega⟩
    · rw [if_neg h1, if_neg h2]
      have : (q - 80) / 79 < 16 := by omega
      exact ⟨Or.inr (Or.inr ⟨by show b + 537 ≤ b + 537 + (q - 80) / 79; omega, by show b + 537 + (q - 80) / 79 ≤ b + 552; omega⟩), fun e => by have : b + 537 + (q - 80) / 79 = b + 54 := e; omega, by show b ≤ b + 537 + (q - 80) / 79; omega, by show b + 537 + (q - 80) / 79 < b + 554; omega⟩
theorem tkT_s {q : Nat} (hs : Sh b M0) (hi : i < 3) (hq : q < 1344) (h : tkT b M0 i q M1) : tkT b M0 i (q + 1) (dwPI (dwPI M1 (b + 54) 81 (Int32.ofNat (q + 1))) (cel b q).1 (cel b q).2 (dwI M1 (b + 554 + i) q)) := by
  obtain ⟨h1, h2, h3, h4⟩ := h
  have hn := shN hs
  obtain ⟨c1, c2, c3, c4⟩ := cel_b (b := b) hq
  have ex : dwI M1 (b + 554 + i) q = dwI M0 (b + 554 + i) q := h1.i (by omega) (by unfold sTk; omega)
  refine ⟨(h1.pI _ (Or.inl (Or.inl ⟨rfl, Or.inr rfl⟩))).pI _ (Or.inl c1), ?_, fun a k hk ha hl hb => ?_, fun j hj => ?_⟩
  · rw [di_PI, if_neg (fun e => c2 e.1.symm e.2.symm), di_PI, if_pos ⟨rfl, rfl⟩]
  · rw [di_PI, if_neg (fun e => hk q (by omega) (Prod.ext e.1.symm e.2.symm)), di_PI, if_neg (fun e => ha e.1 e.2)]
    exact h3 a k (fun j hj => hk j (by omega)) ha hl hb
  · rw [di_PI]
    by_cases e : (cel b j).1 = (cel b q).1 ∧ (cel b j).2 = (cel b q).2
    · rw [if_pos e, ex]
      have : j = q := by
        obtain ⟨e1, e2⟩ := e
        unfold cel at e1 e2
        by_cases a1 : j = 0 <;> by_cases a2 : q = 0 <;> by_cases a3 : j < 80 <;> by_cases a4 : q < 80 <;> simp only [a1, a2, a3, a4, if_true, if_false] at e1 e2 <;> omega
      rw [this]
    · obtain ⟨d1, d2, d3, d4⟩ := cel_b (b := b) (q := j) (by omega)
      rw [if_neg e, di_PI, if_neg (fun z => d2 z.1 z.2)]
      refine h4 j ?_
      refine Classical.byContradiction fun hc => e ?_
      have : j = q := by omega
      rw [this]; exact ⟨rfl, rfl⟩
theorem t_tk62 {E : Option ρ → Prop} {K : dwSt → Option ρ} {r : Nat} (hs : Sh b M0) (hi : i < 3) (hr : r < 16) (h : tkT b M0 i (80 + 79 * r) M1) (hE : ∀ M2, tkT b M0 i (80 + 79 * (r + 1)) M2 → E (K M2)) : E (L_X10_putsAll_62 (b + 54) (b + 554 + i) 1 (Int32.ofNat r) K 1000000 0 M1) := by
  refine lpx (E := E) (fun f k (M2 : dwSt) => L_X10_putsAll_62 (b + 54) (b + 554 + i) 1 (Int32.ofNat r) K f (Int32.ofNat k) M2) 79 (fun k M2 => tkT b M0 i (80 + 79 * r + k) M2) ?_ ?_ 1000000 0 M1 (by omega) (by omega) h
  · intro f M2 h2
    have e79 : ((79 : Int32) ≤ Int32.ofNat 79) = True := i_geT 79
    simp -implicitDefEqProofs only [L_X10_putsAll_62, e79, if_true]
    exact hE M2 (by rw [show 80 + 79 * (r + 1) = 80 + 79 * r + 79 by omega]; exact h2)
  · intro f k M2 hk h2 hnx
    have g := hs.fr h2.1 nz_p
    have e79 : ((79 : Int32) ≤ Int32.ofNat k) = False := i_geF (n := 79) hk (by omega)
    have ep := t_puts1 (x := dwI M2 (b + 537 + r) k) g h2.2.1 hi (by omega)
    have e2 := tkT_s hs hi (by omega) h2
    rw [cel_r hk] at e2
    simp -implicitDefEqProofs only [L_X10_putsAll_62, ↓gp0_2, ↓gp0_3, ↓gp0_4, ↓gp0_5, ↓gp0_6, ↓gp0_7, ↓gp0_8, ↓gp0_9, ↓gp0_10, ↓gp0_18, ↓gp0_19, ↓gp0_20, ↓gp0_22, ↓gp23_43, ↓gp23_32, ↓gp23_33, ↓gp23_34, ↓gp23_35, ↓gp23_36, ↓gp29_43, ↓gp29_32, ↓gp29_33, ↓gp29_34, ↓gp29_35, ↓gp29_36, ↓gp54_53, ↓gp54_54, ↓gp54_55, ↓gp54_56, ↓gp54_57, ↓gp54_58, ↓gp54_59, ↓gp54_60, ↓gp54_61, ↓gp54_62, ↓gp54_65, ↓gp54_66, ↓gp54_67, ↓gp54_68, ↓gp54_69, ↓gp54_70, ↓gp54_71, ↓gp54_73, ↓gp54_74, ↓gp54_75, ↓gp54_76, ↓gp54_84, ↓gp54_85, ↓gp54_87, ↓gp54_88, ↓xr59, kr59, ↓xr67, kr67, ↓xr75, kr75, ↓xr82, kr82, ↓xr89, kr89, ↓xr102, kr102, ↓xr115, kr115, ↓xr276, kr276, ↓xr437, kr437, ↓xr444, kr444, ↓xr453, kr453, ↓xr536, kr536, ↓xr553, kr553, hs0, hw0, hs1, hw1, hs2, hw2, hs3, hw3, hs4, hw4, hs5, hw5, hs6, hw6, hs7, hw7, hs8, hw8, hs9, hw9, hs10, hw10, hs11, hw11, hs12, hw12, hs13, hw13, hs14, hw14, hs15, hw15, hs16, hw16, hs17, hw17, hs18, hw18, hs19, hw19, hs20, hw20, hs21, hw21, hs22, hw22, hs23, hw23, hs25, hw25, hs26, hw26, hs27, hw27, hs28, hw28, hs9b, hw9b, hs10b, hw10b, kd0, kd20, kd21, kd22, kd23, kd24, kd25, kd26, kd27, kd28, kd29, kd30, kd31, kd32, kd33, kd34, kd35, kd36, kd37, kd38, kd39, kd40, kd41, kd42, kd54, kd55, kd56, kd57, kd58, kd59, kd67, kd75, kd82, kd89, kd102, kd115, kd276, kd437, kd444, kd451, kd452, kd453, kd534, kd535, kd536, kd553, kd557, kd558, kd559, kd560, kd561, ↓xgI_u, ↓xpI_u, ↓xaI_u, ↓xsI_u, ↓xrk_u, ↓xrk0_u, ↓xob_v, ↓xmb_v, ↓xth_v, ↓xth_x, ↓jn_u, ↓xlen_u, ↓xaL_u, ↓xsL_u, ↓xbl_0, ↓xbl_1, eq_self, inb_n, inb_d, Sh_PI, Sh_PL, dk_PI, dk_PL, dr_PI, dr_PL, ↓reduceIte, Int32.reduceLE, Int32.reduceLT, Int32.reduceToNatClampNeg, Nat.reduceLT, Nat.reduceLeDiff, Nat.reduceEqDiff, Nat.reduceAdd, Nat.reduceMul, g, e79, if_false, hr, kr536 g r hr, hk, i_nat (show k < 2147483648 by omega), ep, i_succ]
    exact hnx _ e2
theorem t_tk53 {E : Option ρ → Prop} {K : dwSt → Option ρ} (hs : Sh b M0) (hi : i < 3) (h : tkT b M0 i 80 M1) (hE : ∀ M2, tkT b M0 i 1344 M2 → E (K M2)) : E (L_X10_putsAll_53 (b + 54) (b + 554 + i) 1 K 1000000 0 M1) := by
  refine lpx (E := E) (fun f r (M2 : dwSt) => L_X10_putsAll_53 (b + 54) (b + 554 + i) 1 K f (Int32.ofNat r) M2) 16 (fun r M2 => tkT b M0 i (80 + 79 * r) M2) ?_ ?_ 1000000 0 M1 (by omega) (by omega) h
  · intro f M2 h2
    have e16 : ((16 : Int32) ≤ Int32.ofNat 16) = True := i_geT 16
    simp -implicitDefEqProofs only [L_X10_putsAll_53, e16, if_true]
    exact hE M2 h2
  · intro f r M2 hr h2 hnx
    have e16 : ((16 : Int32) ≤ Int32.ofNat r) = False := i_geF (n := 16) hr (by omega)
    simp -implicitDefEqProofs only [L_X10_putsAll_53, e16, if_false, jn_u, i_succ]
    exact t_tk62 hs hi hr h2 fun M3 h3 => hnx M3 h3
theorem t_tk21 {E : Option ρ → Prop} {K : dwSt → Option ρ} (hs : Sh b M0) (hi : i < 3) (h : tkT b M0 i 1 M1) (hE : ∀ M2, tkT b M0 i 80 M2 → E (K M2)) : E (L_X10_putsAll_21 (b + 54) (b + 554 + i) 1 K 1000000 0 M1) := by
  refine lpx (E := E) (fun f k (M2 : dwSt) => L_X10_putsAll_21 (b + 54) (b + 554 + i) 1 K f (Int32.ofNat k) M2) 79 (fun k M2 => tkT b M0 i (1 + k) M2) ?_ ?_ 1000000 0 M1 (by omega) (by omega) h
  · intro f M2 h2
    have e79 : ((79 : Int32) ≤ Int32.ofNat 79) = True := i_geT 79
    simp -implicitDefEqProofs only [L_X10_putsAll_21, e79, if_true]
    exact hE M2 h2
  · intro f k M2 hk h2 hnx
    have g := hs.fr h2.1 nz_p
    have e79 : ((79 : Int32) ≤ Int32.ofNat k) = False := i_geF (n := 79) hk (by omega)
    have ep := t_puts1 (x := dwI M2 (b + 534) k) g h2.2.1 hi (by omega)
    have e2 := tkT_s hs hi (by omega) h2
    rw [cel_n hk] at e2
    simp -implicitDefEqProofs only [L_X10_putsAll_21, ↓gp0_2, ↓gp0_3, ↓gp0_4, ↓gp0_5, ↓gp0_6, ↓gp0_7, ↓gp0_8, ↓gp0_9, ↓gp0_10, ↓gp0_18, ↓gp0_19, ↓gp0_20, ↓gp0_22, ↓gp23_43, ↓gp23_32, ↓gp23_33, ↓gp23_34, ↓gp23_35, ↓gp23_36, ↓gp29_43, ↓gp29_32, ↓gp29_33, ↓gp29_34, ↓gp29_35, ↓gp29_36, ↓gp54_53, ↓gp54_54, ↓gp54_55, ↓gp54_56, ↓gp54_57, ↓gp54_58, ↓gp54_59, ↓gp54_60, ↓gp54_61, ↓gp54_62, ↓gp54_65, ↓gp54_66, ↓gp54_67, ↓gp54_68, ↓gp54_69, ↓gp54_70, ↓gp54_71, ↓gp54_73, ↓gp54_74, ↓gp54_75, ↓gp54_76, ↓gp54_84, ↓gp54_85, ↓gp54_87, ↓gp54_88, ↓xr59, kr59, ↓xr67, kr67, ↓xr75, kr75, ↓xr82, kr82, ↓xr89, kr89, ↓xr102, kr102, ↓xr115, kr115, ↓xr276, kr276, ↓xr437, kr437, ↓xr444, kr444, ↓xr453, kr453, ↓xr536, kr536, ↓xr553, kr553, hs0, hw0, hs1, hw1, hs2, hw2, hs3, hw3, hs4, hw4, hs5, hw5, hs6, hw6, hs7, hw7, hs8, hw8, hs9, hw9, hs10, hw10, hs11, hw11, hs12, hw12, hs13, hw13, hs14, hw14, hs15, hw15, hs16, hw16, hs17, hw17, hs18, hw18, hs19, hw19, hs20, hw20, hs21, hw21, hs22, hw22, hs23, hw23, hs25, hw25, hs26, hw26, hs27, hw27, hs28, hw28, hs9b, hw9b, hs10b, hw10b, kd0, kd20, kd21, kd22, kd23, kd24, kd25, kd26, kd27, kd28, kd29, kd30, kd31, kd32, kd33, kd34, kd35, kd36, kd37, kd38, kd39, kd40, kd41, kd42, kd54, kd55, kd56, kd57, kd58, kd59, kd67, kd75, kd82, kd89, kd102, kd115, kd276, kd437, kd444, kd451, kd452, kd453, kd534, kd535, kd536, kd553, kd557, kd558, kd559, kd560, kd561, ↓xgI_u, ↓xpI_u, ↓xaI_u, ↓xsI_u, ↓xrk_u, ↓xrk0_u, ↓xob_v, ↓xmb_v, ↓xth_v, ↓xth_x, ↓jn_u, ↓xlen_u, ↓xaL_u, ↓xsL_u, ↓xbl_0, ↓xbl_1, eq_self, inb_n, inb_d, Sh_PI, Sh_PL, dk_PI, dk_PL, dr_PI, dr_PL, ↓reduceIte, Int32.reduceLE, Int32.reduceLT, Int32.reduceToNatClampNeg, Nat.reduceLT, Nat.reduceLeDiff, Nat.reduceEqDiff, Nat.reduceAdd, Nat.reduceMul, g, e79, if_false, hk, i_nat (show k < 2147483648 by omega), ep, i_succ]
    exact hnx _ e2
theorem t_putsAll1 (hs : Sh b M0) (hi : i < 3) : ∃ M2, m_X10_putsAll M0 (b + 54) (b + 554 + i) 1 = some ((), M2) ∧ tkT b M0 i 1344 M2 := by
  have h0 : tkT b M0 i 0 (dwPI M0 (b + 54) 81 0) := ⟨(fr.refl M0).pI _ (Or.inl (Or.inl ⟨rfl, Or.inr rfl⟩)), di_eq, fun a k _ ha _ _ => by rw [di_PI, if_neg (fun e => ha e.1 e.2)], fun k hk => by omega⟩
  have g := hs.fr h0.1 nz_p
  have ep := t_puts1 (x := dwI M0 (b + 54) 78) g h0.2.1 hi (by omega)
  have e2 := tkT_s hs hi (by omega) h0
  rw [show cel b 0 = (b + 54, 78) from rfl, show dwI (dwPI M0 (b + 54) 81 0) (b + 554 + i) 0 = dwI M0 (b + 554 + i) 0 from by rw [di_PI, if_neg (by omega)]] at e2
  simp -implicitDefEqProofs only [m_X10_putsAll, ↓gp0_2, ↓gp0_3, ↓gp0_4, ↓gp0_5, ↓gp0_6, ↓gp0_7, ↓gp0_8, ↓gp0_9, ↓gp0_10, ↓gp0_18, ↓gp0_19, ↓gp0_20, ↓gp0_22, ↓gp23_43, ↓gp23_32, ↓gp23_33, ↓gp23_34, ↓gp23_35, ↓gp23_36, ↓gp29_43, ↓gp29_32, ↓gp29_33, ↓gp29_34, ↓gp29_35, ↓gp29_36, ↓gp54_53, ↓gp54_54, ↓gp54_55, ↓gp54_56, ↓gp54_57, ↓gp54_58, ↓gp54_59, ↓gp54_60, ↓gp54_61, ↓gp54_62, ↓gp54_65, ↓gp54_66, ↓gp54_67, ↓gp54_68, ↓gp54_69, ↓gp54_70, ↓gp54_71, ↓gp54_73, ↓gp54_74, ↓gp54_75, ↓gp54_76, ↓gp54_84, ↓gp54_85, ↓gp54_87, ↓gp54_88, ↓xr59, kr59, ↓xr67, kr67, ↓xr75, kr75, ↓xr82, kr82, ↓xr89, kr89, ↓xr102, kr102, ↓xr115, kr115, ↓xr276, kr276, ↓xr437, kr437, ↓xr444, kr444, ↓xr453, kr453, ↓xr536, kr536, ↓xr553, kr553, hs0, hw0, hs1, hw1, hs2, hw2, hs3, hw3, hs4, hw4, hs5, hw5, hs6, hw6, hs7, hw7, hs8, hw8, hs9, hw9, hs10, hw10, hs11, hw11, hs12, hw12, hs13, hw13, hs14, hw14, hs15, hw15, hs16, hw16, hs17, hw17, hs18, hw18, hs19, hw19, hs20, hw20, hs21, hw21, hs22, hw22, hs23, hw23, hs25, hw25, hs26, hw26, hs27, hw27, hs28, hw28, hs9b, hw9b, hs10b, hw10b, kd0, kd20, kd21, kd22, kd23, kd24, kd25, kd26, kd27, kd28, kd29, kd30, kd31, kd32, kd33, kd34, kd35, kd36, kd37, kd38, kd39, kd40, kd41, kd42, kd54, kd55, kd56, kd57, kd58, kd59, kd67, kd75, kd82, kd89, kd102, kd115, kd276, kd437, kd444, kd451, kd452, kd453, kd534, kd535, kd536, kd553, kd557, kd558, kd559, kd560, kd561, ↓xgI_u, ↓xpI_u, ↓xaI_u, ↓xsI_u, ↓xrk_u, ↓xrk0_u, ↓xob_v, ↓xmb_v, ↓xth_v, ↓xth_x, ↓jn_u, ↓xlen_u, ↓xaL_u, ↓xsL_u, ↓xbl_0, ↓xbl_1, eq_self, inb_n, inb_d, Sh_PI, Sh_PL, dk_PI, dk_PL, dr_PI, dr_PL, ↓reduceIte, Int32.reduceLE, Int32.reduceLT, Int32.reduceToNatClampNeg, Nat.reduceLT, Nat.reduceLeDiff, Nat.reduceEqDiff, Nat.reduceAdd, Nat.reduceMul, hs, g, di_PI, show ¬ (78 = 81) by omega, and_false, if_false, ep]
  exact t_tk21 (E := fun z => ∃ M2, z = some ((), M2) ∧ tkT b M0 i 1344 M2) hs hi e2 fun M2 h2 => t_tk53 (E := fun z => ∃ M2, z = some ((), M2) ∧ tkT b M0 i 1344 M2) hs hi h2 fun M3 h3 => ⟨M3, rfl, h3⟩
end TAKE
