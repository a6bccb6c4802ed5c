/-! A LAND read: the twin's clause, its kinds -/
theorem nbS_bl {X : Nat → Nat} {L p : Nat} {lo hi : Int32} : nbS X L lo hi (blS X L p) = nbS X L lo hi p := by unfold nbS; rw [blS_bl]
section LAND
variable {b : Nat} {M : dwSt} {A : dvA} {ρ : Type} {L : Nat} {T : dvT} {r : rsP}
theorem tRT_fr {S Z : Nat → Nat → Prop} {n u : Nat} {M' : dwSt} (hs : Sh b M) (h : tRT b M T) (hO : tOK T) (f : fr S Z n u M M') (hS : ∀ i k, i = 57 ∨ (60 ≤ i ∧ i ≤ 66) ∨ (76 ≤ i ∧ i ≤ 81) ∨ (90 ≤ i ∧ i ≤ 101) → ¬ S (b + i) k) : tRT b M' T := by
  have hn := shN hs
  have hi : ∀ i k, i = 57 ∨ (60 ≤ i ∧ i ≤ 66) ∨ (76 ≤ i ∧ i ≤ 81) ∨ (90 ≤ i ∧ i ≤ 101) → dwI M' (b + i) k = dwI M (b + i) k := fun i k h1 => f.i (by omega) (hS i k h1)
  obtain ⟨h1, h2, h3, h4, h5, h6, h7, h8⟩ := h
  have o1 := hO.1
  have o2 := hO.2.1
  have o3 := hO.2.2.1
  refine ⟨(hi 57 0 (by omega)).trans h1, (hi 57 1 (by omega)).trans h2, (hi 57 2 (by omega)).trans h3, (hi 57 3 (by omega)).trans h4, (hi 57 4 (by omega)).trans h5, ?_, ?_, ?_⟩
  · intro p i hp hi2; rw [Nat.add_assoc, hi _ _ (by omega), ← Nat.add_assoc]; exact h6 p i hp hi2
  · intro p i hp hi2; rw [Nat.add_assoc, hi _ _ (by omega), ← Nat.add_assoc]; exact h7 p i hp hi2
  · intro p i hp hi2; rw [Nat.add_assoc, hi _ _ (by omega), ← Nat.add_assoc]; exact h8 p i hp hi2
def sKi (b x : Nat) : Nat → Nat → Prop := fun a k => (a = b + 54 ∧ (k = 48 ∨ k = 49 ∨ k = 50)) ∨ a = x
theorem t_tail {k m : Nat} (hk : k < 3) (h : tSt b M A L r) (hc : dwI M (b + 57) k = Int32.ofNat m) : ∃ M2, (xrk M (b + 54) 3 (xmb (m_X10_sign M (b + 54) 59) (fun _ M12 => if 3 ≤ (Int32.ofNat k) then some ((), M12) else xgR M12 55 (b + 54) (fun v13 => xaI M12 v13 (Int32.ofNat k) (fun v14 => xgI M12 49 (b + 54) (fun v15 => if v15 = 0 then xsI M12 v13 (Int32.ofNat k) (v14 + 1) (fun M17 => some ((), M17)) else xsI M12 v13 (Int32.ofNat k) (v14 + 0) (fun M16 => some ((), M16)))))))) = some ((), M2) ∧ fr (fun a j => (a = b + 54 ∧ (j = 48 ∨ j = 49 ∨ j = 50)) ∨ (a = b + 57 ∧ j = k)) nz 0 0 M M2 ∧ tSt b M2 A L (sgR (xbN A) L 59 r) ∧ ∀ p, sgR (xbN A) L 59 r = .inl p → dwI M2 (b + 57) k = Int32.ofNat (m + 1) := by
  have sh1 := h.1.1
  have hN := shN sh1
  obtain ⟨M2, e, f, k2⟩ := tS_sign (c := 59) h (by omega)
  have e' : m_X10_sign M (b + 54) 59 = some ((), M2) := e
  have sh2 := k2.1.1
  have hN2 := shN sh2
  have h3k : ((3 : Int32) ≤ Int32.ofNat k) = False := by rw [show (3 : Int32) = Int32.ofNat 3 from rfl, i_le (by omega) (by omega)]; exact eq_false (by omega)
  have hc2 : dwI M2 (b + 57) k = Int32.ofNat m := (f.i (by omega) (by unfold sWr; omega)).trans hc
  have hk5 : k < 5 := by omega
  generalize sgR (xbN A) L 59 r = R at *
  have F : ∀ v, fr (fun a j => (a = b + 54 ∧ (j = 48 ∨ j = 49 ∨ j = 50)) ∨ (a = b + 57 ∧ j = k)) nz 0 0 M (dwPI M2 (b + 57) k v) := fun v => (f.mono (fun a j z => Or.inl z) (fun _ _ z => z) (Nat.le_refl _) (Nat.le_refl _)).pI _ (Or.inl (Or.inr ⟨rfl, rfl⟩))
  have kk : ∀ v, tSt b (dwPI M2 (b + 57) k v) A L R := fun v => k2.fr (frP M2 (b + 57) k v) (fun j hj => by omega) (fun j => by omega) nz_p
  cases R with
  | inl p =>
    have z := k2.ok.2.1
    refine ⟨_, ?_, F (Int32.ofNat m + 1), kk _, fun p' _ => by rw [di_eq, i_succ]⟩
    simp only [↓gp0_2, ↓gp0_3, ↓gp0_4, ↓gp0_5, ↓gp0_6, ↓gp0_7, ↓gp0_8, ↓gp0_9, ↓gp0_10, ↓gp0_18, ↓gp0_19, ↓gp0_20, ↓gp0_22, ↓gp23_43, ↓gp23_32, ↓gp23_33, ↓gp23_34, ↓gp23_35, ↓gp23_36, ↓gp29_43, ↓gp29_32, ↓gp29_33, ↓gp29_34, ↓gp29_35, ↓gp29_36, ↓gp54_53, ↓gp54_54, ↓gp54_55, ↓gp54_56, ↓gp54_57, ↓gp54_58, ↓gp54_59, ↓gp54_60, ↓gp54_61, ↓gp54_62, ↓gp54_65, ↓gp54_66, ↓gp54_67, ↓gp54_68, ↓gp54_69, ↓gp54_70, ↓gp54_71, ↓gp54_73, ↓gp54_74, ↓gp54_75, ↓gp54_76, ↓gp54_84, ↓gp54_85, ↓gp54_87, ↓gp54_88, ↓xr59, kr59, ↓xr67, kr67, ↓xr75, kr75, ↓xr82, kr82, ↓xr89, kr89, ↓xr102, kr102, ↓xr115, kr115, ↓xr276, kr276, ↓xr437, kr437, ↓xr444, kr444, ↓xr453, kr453, ↓xr536, kr536, ↓xr553, kr553, hs0, hw0, hs1, hw1, hs2, hw2, hs3, hw3, hs4, hw4, hs5, hw5, hs6, hw6, hs7, hw7, hs8, hw8, hs9, hw9, hs10, hw10, hs11, hw11, hs12, hw12, hs13, hw13, hs14, hw14, hs15, hw15, hs16, hw16, hs17, hw17, hs18, hw18, hs19, hw19, hs20, hw20, hs21, hw21, hs22, hw22, hs23, hw23, hs25, hw25, hs26, hw26, hs27, hw27, hs28, hw28, hs9b, hw9b, hs10b, hw10b, kd0, kd20, kd21, kd22, kd23, kd24, kd25, kd26, kd27, kd28, kd29, kd30, kd31, kd32, kd33, kd34, kd35, kd36, kd37, kd38, kd39, kd40, kd41, kd42, kd54, kd55, kd56, kd57, kd58, kd59, kd67, kd75, kd82, kd89, kd102, kd115, kd276, kd437, kd444, kd451, kd452, kd453, kd534, kd535, kd536, kd553, kd557, kd558, kd559, kd560, kd561, ↓xgI_u, ↓xpI_u, ↓xaI_u, ↓xsI_u, ↓xrk_u, ↓xrk0_u, ↓xob_v, ↓xmb_v, ↓xth_v, ↓xth_x, ↓jn_u, ↓xlen_u, ↓xaL_u, ↓xsL_u, ↓xbl_0, ↓xbl_1, eq_self, inb_n, inb_d, Sh_PI, Sh_PL, dk_PI, dk_PL, dr_PI, dr_PL, ↓reduceIte, Int32.reduceLE, Int32.reduceLT, Int32.reduceToNatClampNeg, Nat.reduceLT, Nat.reduceLeDiff, Nat.reduceEqDiff, Nat.reduceAdd, Nat.reduceMul, sh1, e', sh2, h3k, if_false, hk5, i_nat (show k < 2147483648 by omega), hc2, z, if_true]
  | inr e0 =>
    have z := k2.bad.2.2
    refine ⟨_, ?_, F (Int32.ofNat m + 0), kk _, fun p' e => by cases e⟩
    simp only [↓gp0_2, ↓gp0_3, ↓gp0_4, ↓gp0_5, ↓gp0_6, ↓gp0_7, ↓gp0_8, ↓gp0_9, ↓gp0_10, ↓gp0_18, ↓gp0_19, ↓gp0_20, ↓gp0_22, ↓gp23_43, ↓gp23_32, ↓gp23_33, ↓gp23_34, ↓gp23_35, ↓gp23_36, ↓gp29_43, ↓gp29_32, ↓gp29_33, ↓gp29_34, ↓gp29_35, ↓gp29_36, ↓gp54_53, ↓gp54_54, ↓gp54_55, ↓gp54_56, ↓gp54_57, ↓gp54_58, ↓gp54_59, ↓gp54_60, ↓gp54_61, ↓gp54_62, ↓gp54_65, ↓gp54_66, ↓gp54_67, ↓gp54_68, ↓gp54_69, ↓gp54_70, ↓gp54_71, ↓gp54_73, ↓gp54_74, ↓gp54_75, ↓gp54_76, ↓gp54_84, ↓gp54_85, ↓gp54_87, ↓gp54_88, ↓xr59, kr59, ↓xr67, kr67, ↓xr75, kr75, ↓xr82, kr82, ↓xr89, kr89, ↓xr102, kr102, ↓xr115, kr115, ↓xr276, kr276, ↓xr437, kr437, ↓xr444, kr444, ↓xr453, kr453, ↓xr536, kr536, ↓xr553, kr553, hs0, hw0, hs1, hw1, hs2, hw2, hs3, hw3, hs4, hw4, hs5, hw5, hs6, hw6, hs7, hw7, hs8, hw8, hs9, hw9, hs10, hw10, hs11, hw11, hs12, hw12, hs13, hw13, hs14, hw14, hs15, hw15, hs16, hw16, hs17, hw17, hs18, hw18, hs19, hw19, hs20, hw20, hs21, hw21, hs22, hw22, hs23, hw23, hs25, hw25, hs26, hw26, hs27, hw27, hs28, hw28, hs9b, hw9b, hs10b, hw10b, kd0, kd20, kd21, kd22, kd23, kd24, kd25, kd26, kd27, kd28, kd29, kd30, kd31, kd32, kd33, kd34, kd35, kd36, kd37, kd38, kd39, kd40, kd41, kd42, kd54, kd55, kd56, kd57, kd58, kd59, kd67, kd75, kd82, kd89, kd102, kd115, kd276, kd437, kd444, kd451, kd452, kd453, kd534, kd535, kd536, kd553, kd557, kd558, kd559, kd560, kd561, ↓xgI_u, ↓xpI_u, ↓xaI_u, ↓xsI_u, ↓xrk_u, ↓xrk0_u, ↓xob_v, ↓xmb_v, ↓xth_v, ↓xth_x, ↓jn_u, ↓xlen_u, ↓xaL_u, ↓xsL_u, ↓xbl_0, ↓xbl_1, eq_self, inb_n, inb_d, Sh_PI, Sh_PL, dk_PI, dk_PL, dr_PI, dr_PL, ↓reduceIte, Int32.reduceLE, Int32.reduceLT, Int32.reduceToNatClampNeg, Nat.reduceLT, Nat.reduceLeDiff, Nat.reduceEqDiff, Nat.reduceAdd, Nat.reduceMul, sh1, e', sh2, h3k, if_false, hk5, i_nat (show k < 2147483648 by omega), hc2, z]
theorem t_clP {E : Option ρ → Prop} {K : dwSt → Option ρ} {q : Nat} (h : tSt b M A L (.inl q)) (hP : tP T < 7) (hK : ∀ M2, fr (sKi b (b + 60 + tP T)) nz 0 0 M M2 → tSt b M2 A L (poR (nuR (xbN A) L 0 9 (poR (nbS (xbN A) L 0 3 q)))) → dwI M2 (b + 60 + tP T) 0 = Int32.ofNat (vaR (nbS (xbN A) L 0 3 q)) → dwI M2 (b + 60 + tP T) 1 = Int32.ofNat (vaR (nuR (xbN A) L 0 9 (poR (nbS (xbN A) L 0 3 q)))) → E (K M2)) : E (xgR M 57 (b + 54) (fun v18 => xaR M 4 v18 (Int32.ofNat (tP T)) (fun v19 => xrk M (b + 54) 3 (xmb (m_X10_number M (b + 54) 0 3) (fun v20 M21 => xsI M21 v19 0 v20 (fun M22 => xgR M22 57 (b + 54) (fun v23 => xaR M22 4 v23 (Int32.ofNat (tP T)) (fun v24 => xrk M22 (b + 54) 3 (xmb (m_X10_number M22 (b + 54) 0 9) (fun v25 M26 => xsI M26 v24 1 v25 (fun M27 => K M27))))))))))) := by
  have sh1 := h.1.1
  have hN := shN sh1
  obtain ⟨v1, M2, e2, f2, k2, ev1⟩ := tS_num (lo := 0) (hi := 3) h
  have k2' : tSt b M2 A L (poR (nbS (xbN A) L 0 3 q)) := k2
  have ev1' : v1 = Int32.ofNat (vaR (nbS (xbN A) L 0 3 q)) := ev1
  have sh2 := k2'.1.1
  have k3 : tSt b (dwPI M2 (b + 60 + tP T) 0 v1) A L (poR (nbS (xbN A) L 0 3 q)) := k2'.fr (frP M2 _ 0 v1) (fun j hj => by omega) (fun j => by omega) nz_p
  have sh3 := k3.1.1
  obtain ⟨v2, M4, e4, f4, k4, ev2⟩ := tS_num (lo := 0) (hi := 9) k3
  have sh4 := k4.1.1
  have k5 := k4.fr (frP M4 (b + 60 + tP T) 1 v2) (fun j hj => by omega) (fun j => by omega) nz_p
  have hN3 := shN sh3
  have F : fr (sKi b (b + 60 + tP T)) nz 0 0 M (dwPI M4 (b + 60 + tP T) 1 v2) := (((f2.mono (S' := sKi b (b + 60 + tP T)) (Z' := nz) (fun a j z => Or.inl z) (fun _ _ z => z) (Nat.le_refl _) (Nat.le_refl _)).t0 ((frP M2 (b + 60 + tP T) 0 v1).mono (fun a j z => Or.inr z) (fun _ _ z => z) (Nat.le_refl _) (Nat.le_refl _))).t0 (f4.mono (fun a j z => Or.inl z) (fun _ _ z => z) (Nat.le_refl _) (Nat.le_refl _))).pI _ (Or.inl (Or.inr rfl))
  simp only [↓gp0_2, ↓gp0_3, ↓gp0_4, ↓gp0_5, ↓gp0_6, ↓gp0_7, ↓gp0_8, ↓gp0_9, ↓gp0_10, ↓gp0_18, ↓gp0_19, ↓gp0_20, ↓gp0_22, ↓gp23_43, ↓gp23_32, ↓gp23_33, ↓gp23_34, ↓gp23_35, ↓gp23_36, ↓gp29_43, ↓gp29_32, ↓gp29_33, ↓gp29_34, ↓gp29_35, ↓gp29_36, ↓gp54_53, ↓gp54_54, ↓gp54_55, ↓gp54_56, ↓gp54_57, ↓gp54_58, ↓gp54_59, ↓gp54_60, ↓gp54_61, ↓gp54_62, ↓gp54_65, ↓gp54_66, ↓gp54_67, ↓gp54_68, ↓gp54_69, ↓gp54_70, ↓gp54_71, ↓gp54_73, ↓gp54_74, ↓gp54_75, ↓gp54_76, ↓gp54_84, ↓gp54_85, ↓gp54_87, ↓gp54_88, ↓xr59, kr59, ↓xr67, kr67, ↓xr75, kr75, ↓xr82, kr82, ↓xr89, kr89, ↓xr102, kr102, ↓xr115, kr115, ↓xr276, kr276, ↓xr437, kr437, ↓xr444, kr444, ↓xr453, kr453, ↓xr536, kr536, ↓xr553, kr553, hs0, hw0, hs1, hw1, hs2, hw2, hs3, hw3, hs4, hw4, hs5, hw5, hs6, hw6, hs7, hw7, hs8, hw8, hs9, hw9, hs10, hw10, hs11, hw11, hs12, hw12, hs13, hw13, hs14, hw14, hs15, hw15, hs16, hw16, hs17, hw17, hs18, hw18, hs19, hw19, hs20, hw20, hs21, hw21, hs22, hw22, hs23, hw23, hs25, hw25, hs26, hw26, hs27, hw27, hs28, hw28, hs9b, hw9b, hs10b, hw10b, kd0, kd20, kd21, kd22, kd23, kd24, kd25, kd26, kd27, kd28, kd29, kd30, kd31, kd32, kd33, kd34, kd35, kd36, kd37, kd38, kd39, kd40, kd41, kd42, kd54, kd55, kd56, kd57, kd58, kd59, kd67, kd75, kd82, kd89, kd102, kd115, kd276, kd437, kd444, kd451, kd452, kd453, kd534, kd535, kd536, kd553, kd557, kd558, kd559, kd560, kd561, ↓xgI_u, ↓xpI_u, ↓xaI_u, ↓xsI_u, ↓xrk_u, ↓xrk0_u, ↓xob_v, ↓xmb_v, ↓xth_v, ↓xth_x, ↓jn_u, ↓xlen_u, ↓xaL_u, ↓xsL_u, ↓xbl_0, ↓xbl_1, eq_self, inb_n, inb_d, Sh_PI, Sh_PL, dk_PI, dk_PL, dr_PI, dr_PL, ↓reduceIte, Int32.reduceLE, Int32.reduceLT, Int32.reduceToNatClampNeg, Nat.reduceLT, Nat.reduceLeDiff, Nat.reduceEqDiff, Nat.reduceAdd, Nat.reduceMul, sh1, e2, sh2, hP, e4, sh4]
  refine hK _ F k5 ?_ ?_
  · rw [di_ne (by omega), f4.i (by omega) (by unfold sWr; omega), di_eq, ev1']
  · rw [di_eq]; exact ev2
theorem t_clJ {E : Option ρ → Prop} {K : dwSt → Option ρ} {q : Nat} (h : tSt b M A L (.inl q)) (hP : tJ T < 6) (hK : ∀ M2, fr (sKi b (b + 76 + tJ T)) nz 0 0 M M2 → tSt b M2 A L (poR (nuR (xbN A) L 1 20 (poR (nbS (xbN A) L 0 9 q)))) → dwI M2 (b + 76 + tJ T) 0 = Int32.ofNat (vaR (nbS (xbN A) L 0 9 q)) → dwI M2 (b + 76 + tJ T) 1 = Int32.ofNat (vaR (nuR (xbN A) L 1 20 (poR (nbS (xbN A) L 0 9 q)))) → E (K M2)) : E (xgR M 59 (b + 54) (fun v28 => xaR M 4 v28 (Int32.ofNat (tJ T)) (fun v29 => xrk M (b + 54) 3 (xmb (m_X10_number M (b + 54) 0 9) (fun v30 M31 => xsI M31 v29 0 v30 (fun M32 => xgR M32 59 (b + 54) (fun v33 => xaR M32 4 v33 (Int32.ofNat (tJ T)) (fun v34 => xrk M32 (b + 54) 3 (xmb (m_X10_number M32 (b + 54) 1 20) (fun v35 M36 => xsI M36 v34 1 v35 (fun M37 => K M37))))))))))) := by
  have sh1 := h.1.1
  have hN := shN sh1
  obtain ⟨v1, M2, e2, f2, k2, ev1⟩ := tS_num (lo := 0) (hi := 9) h
  have k2' : tSt b M2 A L (poR (nbS (xbN A) L 0 9 q)) := k2
  have ev1' : v1 = Int32.ofNat (vaR (nbS (xbN A) L 0 9 q)) := ev1
  have sh2 := k2'.1.1
  have k3 : tSt b (dwPI M2 (b + 76 + tJ T) 0 v1) A L (poR (nbS (xbN A) L 0 9 q)) := k2'.fr (frP M2 _ 0 v1) (fun j hj => by omega) (fun j => by omega) nz_p
  have sh3 := k3.1.1
  obtain ⟨v2, M4, e4, f4, k4, ev2⟩ := tS_num (lo := 1) (hi := 20) k3
  have sh4 := k4.1.1
  have k5 := k4.fr (frP M4 (b + 76 + tJ T) 1 v2) (fun j hj => by omega) (fun j => by omega) nz_p
  have hN3 := shN sh3
  have F : fr (sKi b (b + 76 + tJ T)) nz 0 0 M (dwPI M4 (b + 76 + tJ T) 1 v2) := (((f2.mono (S' := sKi b (b + 76 + tJ T)) (Z' := nz) (fun a j z => Or.inl z) (fun _ _ z => z) (Nat.le_refl _) (Nat.le_refl _)).t0 ((frP M2 (b + 76 + tJ T) 0 v1).mono (fun a j z => Or.inr z) (fun _ _ z => z) (Nat.le_refl _) (Nat.le_refl _))).t0 (f4.mono (fun a j z => Or.inl z) (fun _ _ z => z) (Nat.le_refl _) (Nat.le_refl _))).pI _ (Or.inl (Or.inr rfl))
  simp only [↓gp0_2, ↓gp0_3, ↓gp0_4, ↓gp0_5, ↓gp0_6, ↓gp0_7, ↓gp0_8, ↓gp0_9, ↓gp0_10, ↓gp0_18, ↓gp0_19, ↓gp0_20, ↓gp0_22, ↓gp23_43, ↓gp23_32, ↓gp23_33, ↓gp23_34, ↓gp23_35, ↓gp23_36, ↓gp29_43, ↓gp29_32, ↓gp29_33, ↓gp29_34, ↓gp29_35, ↓gp29_36, ↓gp54_53, ↓gp54_54, ↓gp54_55, ↓gp54_56, ↓gp54_57, ↓gp54_58, ↓gp54_59, ↓gp54_60, ↓gp54_61, ↓gp54_62, ↓gp54_65, ↓gp54_66, ↓gp54_67, ↓gp54_68, ↓gp54_69, ↓gp54_70, ↓gp54_71, ↓gp54_73, ↓gp54_74, ↓gp54_75, ↓gp54_76, ↓gp54_84, ↓gp54_85, ↓gp54_87, ↓gp54_88, ↓xr59, kr59, ↓xr67, kr67, ↓xr75, kr75, ↓xr82, kr82, ↓xr89, kr89, ↓xr102, kr102, ↓xr115, kr115, ↓xr276, kr276, ↓xr437, kr437, ↓xr444, kr444, ↓xr453, kr453, ↓xr536, kr536, ↓xr553, kr553, hs0, hw0, hs1, hw1, hs2, hw2, hs3, hw3, hs4, hw4, hs5, hw5, hs6, hw6, hs7, hw7, hs8, hw8, hs9, hw9, hs10, hw10, hs11, hw11, hs12, hw12, hs13, hw13, hs14, hw14, hs15, hw15, hs16, hw16, hs17, hw17, hs18, hw18, hs19, hw19, hs20, hw20, hs21, hw21, hs22, hw22, hs23, hw23, hs25, hw25, hs26, hw26, hs27, hw27, hs28, hw28, hs9b, hw9b, hs10b, hw10b, kd0, kd20, kd21, kd22, kd23, kd24, kd25, kd26, kd27, kd28, kd29, kd30, kd31, kd32, kd33, kd34, kd35, kd36, kd37, kd38, kd39, kd40, kd41, kd42, kd54, kd55, kd56, kd57, kd58, kd59, kd67, kd75, kd82, kd89, kd102, kd115, kd276, kd437, kd444, kd451, kd452, kd453, kd534, kd535, kd536, kd553, kd557, kd558, kd559, kd560, kd561, ↓xgI_u, ↓xpI_u, ↓xaI_u, ↓xsI_u, ↓xrk_u, ↓xrk0_u, ↓xob_v, ↓xmb_v, ↓xth_v, ↓xth_x, ↓jn_u, ↓xlen_u, ↓xaL_u, ↓xsL_u, ↓xbl_0, ↓xbl_1, eq_self, inb_n, inb_d, Sh_PI, Sh_PL, dk_PI, dk_PL, dr_PI, dr_PL, ↓reduceIte, Int32.reduceLE, Int32.reduceLT, Int32.reduceToNatClampNeg, Nat.reduceLT, Nat.reduceLeDiff, Nat.reduceEqDiff, Nat.reduceAdd, Nat.reduceMul, sh1, e2, sh2, hP, e4, sh4]
  refine hK _ F k5 ?_ ?_
  · rw [di_ne (by omega), f4.i (by omega) (by unfold sWr; omega), di_eq, ev1']
  · rw [di_eq]; exact ev2
theorem t_clS {E : Option ρ → Prop} {K : dwSt → Option ρ} {q : Nat} (h : tSt b M A L (.inl q)) (hS : tS T < 12) (hT : tRT b M T) (hO : tOK T) (hK : ∀ M2, fr (sKi b (b + 90 + tS T)) nz 0 0 M M2 → tSt b M2 A L (match nuR (xbN A) L 0 (Int32.ofNat (tP T) - 1) (poR (nbS (xbN A) L 0 (Int32.ofNat (tP T) - 1) q)) with
    | .inl z => @ite _ (noSt T (vaR (nbS (xbN A) L 0 (Int32.ofNat (tP T) - 1) q)) z.1) (Classical.propDecidable _) (.inr (2, blS (xbN A) L (psR (nbS (xbN A) L 0 (Int32.ofNat (tP T) - 1) q)))) (.inl z.2)
    | .inr e => .inr e) → dwI M2 (b + 90 + tS T) 0 = Int32.ofNat (vaR (nbS (xbN A) L 0 (Int32.ofNat (tP T) - 1) q)) → dwI M2 (b + 90 + tS T) 1 = Int32.ofNat (vaR (nuR (xbN A) L 0 (Int32.ofNat (tP T) - 1) (poR (nbS (xbN A) L 0 (Int32.ofNat (tP T) - 1) q)))) → E (K M2)) : E (xgR M 55 (b + 54) (fun v38 => xaI M v38 0 (fun v39 => xrk M (b + 54) 3 (xmb (m_X10_number M (b + 54) 0 (v39 - 1)) (fun v40 M41 => xrk M41 (b + 54) 3 (xmb (m_X10_blanks M41 (b + 54)) (fun _ M43 => xgI M43 48 (b + 54) (fun v44 => xgR M43 55 (b + 54) (fun v45 => xaI M43 v45 0 (fun v46 => xrk M43 (b + 54) 3 (xmb (m_X10_number M43 (b + 54) 0 (v46 - 1)) (fun v47 M48 => xgI M48 49 (b + 54) (fun v49 => jn (fun (M50 : dwSt) => xgR M50 61 (b + 54) (fun v51 => xaR M50 4 v51 (Int32.ofNat (tS T)) (fun v52 => xsI M50 v52 0 v40 (fun M53 => xgR M53 61 (b + 54) (fun v54 => xaR M53 4 v54 (Int32.ofNat (tS T)) (fun v55 => xsI M53 v55 1 v47 (fun M56 => K M56))))))) (fun j258 => if v49 = 0 then jn (fun (_u : Unit) => xrk M48 (b + 54) 3 (xmb (m_X10_wrong M48 (b + 54) 2 v44) (fun _ M58 => j258 M58))) (fun j251 => if v40 = v47 then j251 () else xrk M48 (b + 54) 3 (xob (m_X10_isReadStreet M48 (b + 54) v40 v47) (fun v59 => if v59 = 0 then j258 M48 else j251 ()))) else j258 M48)))))))))))))) := by
  have sh1 := h.1.1
  have hN := shN sh1
  have hP7 := hO.1
  obtain ⟨v1, M2, e2, f2, k2, ev1⟩ := tS_num (lo := 0) (hi := Int32.ofNat (tP T) - 1) h
  have k2' : tSt b M2 A L (poR (nbS (xbN A) L 0 (Int32.ofNat (tP T) - 1) q)) := k2
  have ev1' : v1 = Int32.ofNat (vaR (nbS (xbN A) L 0 (Int32.ofNat (tP T) - 1) q)) := ev1
  have sh2 := k2'.1.1
  obtain ⟨M3, e3, f3, k3⟩ := tS_bl k2'
  have sh3 := k3.1.1
  have hN3 := shN sh3
  have F3 : fr (sWr b) nz 0 0 M M3 := f2.t0 (f3.mono (fun a j z => ⟨z.1, Or.inl z.2⟩) (fun _ _ z => z) (Nat.le_refl _) (Nat.le_refl _))
  have T3 := tRT_fr sh1 hT hO F3 (fun i k hi => by unfold sWr; omega)
  obtain ⟨v2, M4, e4, f4, k4, ev2⟩ := tS_num (lo := 0) (hi := Int32.ofNat (tP T) - 1) k3
  have hbb : nuR (xbN A) L 0 (Int32.ofNat (tP T) - 1) (blR (xbN A) L (poR (nbS (xbN A) L 0 (Int32.ofNat (tP T) - 1) q))) = nuR (xbN A) L 0 (Int32.ofNat (tP T) - 1) (poR (nbS (xbN A) L 0 (Int32.ofNat (tP T) - 1) q)) := by
    cases nbS (xbN A) L 0 (Int32.ofNat (tP T) - 1) q with
    | inl z => exact nbS_bl
    | inr e => rfl
  rw [hbb] at k4 ev2
  have sh4 := k4.1.1
  have hN4 := shN sh4
  have F4 := F3.t0 f4
  have T4 := tRT_fr sh1 hT hO F4 (fun i k hi => by unfold sWr; omega)
  have t0 := hT.1
  have t3 := T3.1
  have fin : ∀ M5 : dwSt, fr (sWr b) nz 0 0 M M5 → tSt b M5 A L (match nuR (xbN A) L 0 (Int32.ofNat (tP T) - 1) (poR (nbS (xbN A) L 0 (Int32.ofNat (tP T) - 1) q)) with
    | .inl z => @ite _ (noSt T (vaR (nbS (xbN A) L 0 (Int32.ofNat (tP T) - 1) q)) z.1) (Classical.propDecidable _) (.inr (2, blS (xbN A) L (psR (nbS (xbN A) L 0 (Int32.ofNat (tP T) - 1) q)))) (.inl z.2)
    | .inr e => .inr e) → E (xgR M5 61 (b + 54) (fun v51 => xaR M5 4 v51 (Int32.ofNat (tS T)) (fun v52 => xsI M5 v52 0 v1 (fun M53 => xgR M53 61 (b + 54) (fun v54 => xaR M53 4 v54 (Int32.ofNat (tS T)) (fun v55 => xsI M53 v55 1 v2 (fun M56 => K M56))))))) := by
    intro M5 f5 k5
    have sh5 := k5.1.1
    have k6 := k5.fr ((frP M5 (b + 90 + tS T) 0 v1).t0 (frP _ (b + 90 + tS T) 1 v2)) (fun j hj => by omega) (fun j => by omega) nz_p
    have F : fr (sKi b (b + 90 + tS T)) nz 0 0 M (dwPI (dwPI M5 (b + 90 + tS T) 0 v1) (b + 90 + tS T) 1 v2) := ((f5.mono (S' := sKi b (b + 90 + tS T)) (Z' := nz) (fun a j z => Or.inl z) (fun _ _ z => z) (Nat.le_refl _) (Nat.le_refl _)).pI _ (Or.inl (Or.inr rfl))).pI _ (Or.inl (Or.inr rfl))
    simp only [↓gp0_2, ↓gp0_3, ↓gp0_4, ↓gp0_5, ↓gp0_6, ↓gp0_7, ↓gp0_8, ↓gp0_9, ↓gp0_10, ↓gp0_18, ↓gp0_19, ↓gp0_20, ↓gp0_22, ↓gp23_43, ↓gp23_32, ↓gp23_33, ↓gp23_34, ↓gp23_35, ↓gp23_36, ↓gp29_43, ↓gp29_32, ↓gp29_33, ↓gp29_34, ↓gp29_35, ↓gp29_36, ↓gp54_53, ↓gp54_54, ↓gp54_55, ↓gp54_56, ↓gp54_57, ↓gp54_58, ↓gp54_59, ↓gp54_60, ↓gp54_61, ↓gp54_62, ↓gp54_65, ↓gp54_66, ↓gp54_67, ↓gp54_68, ↓gp54_69, ↓gp54_70, ↓gp54_71, ↓gp54_73, ↓gp54_74, ↓gp54_75, ↓gp54_76, ↓gp54_84, ↓gp54_85, ↓gp54_87, ↓gp54_88, ↓xr59, kr59, ↓xr67, kr67, ↓xr75, kr75, ↓xr82, kr82, ↓xr89, kr89, ↓xr102, kr102, ↓xr115, kr115, ↓xr276, kr276, ↓xr437, kr437, ↓xr444, kr444, ↓xr453, kr453, ↓xr536, kr536, ↓xr553, kr553, hs0, hw0, hs1, hw1, hs2, hw2, hs3, hw3, hs4, hw4, hs5, hw5, hs6, hw6, hs7, hw7, hs8, hw8, hs9, hw9, hs10, hw10, hs11, hw11, hs12, hw12, hs13, hw13, hs14, hw14, hs15, hw15, hs16, hw16, hs17, hw17, hs18, hw18, hs19, hw19, hs20, hw20, hs21, hw21, hs22, hw22, hs23, hw23, hs25, hw25, hs26, hw26, hs27, hw27, hs28, hw28, hs9b, hw9b, hs10b, hw10b, kd0, kd20, kd21, kd22, kd23, kd24, kd25, kd26, kd27, kd28, kd29, kd30, kd31, kd32, kd33, kd34, kd35, kd36, kd37, kd38, kd39, kd40, kd41, kd42, kd54, kd55, kd56, kd57, kd58, kd59, kd67, kd75, kd82, kd89, kd102, kd115, kd276, kd437, kd444, kd451, kd452, kd453, kd534, kd535, kd536, kd553, kd557, kd558, kd559, kd560, kd561, ↓xgI_u, ↓xpI_u, ↓xaI_u, ↓xsI_u, ↓xrk_u, ↓xrk0_u, ↓xob_v, ↓xmb_v, ↓xth_v, ↓xth_x, ↓jn_u, ↓xlen_u, ↓xaL_u, ↓xsL_u, ↓xbl_0, ↓xbl_1, eq_self, inb_n, inb_d, Sh_PI, Sh_PL, dk_PI, dk_PL, dr_PI, dr_PL, ↓reduceIte, Int32.reduceLE, Int32.reduceLT, Int32.reduceToNatClampNeg, Nat.reduceLT, Nat.reduceLeDiff, Nat.reduceEqDiff, Nat.reduceAdd, Nat.reduceMul, sh5, hS]
    refine hK _ F k6 ?_ ?_
    · rw [di_ne (by omega), di_eq, ev1']
    · rw [di_eq]; exact ev2
  have e0 : xgR M 55 (b + 54) (fun v38 => xaI M v38 0 (fun v39 => xrk M (b + 54) 3 (xmb (m_X10_number M (b + 54) 0 (v39 - 1)) (fun v40 M41 => xrk M41 (b + 54) 3 (xmb (m_X10_blanks M41 (b + 54)) (fun _ M43 => xgI M43 48 (b + 54) (fun v44 => xgR M43 55 (b + 54) (fun v45 => xaI M43 v45 0 (fun v46 => xrk M43 (b + 54) 3 (xmb (m_X10_number M43 (b + 54) 0 (v46 - 1)) (fun v47 M48 => xgI M48 49 (b + 54) (fun v49 => jn (fun (M50 : dwSt) => xgR M50 61 (b + 54) (fun v51 => xaR M50 4 v51 (Int32.ofNat (tS T)) (fun v52 => xsI M50 v52 0 v40 (fun M53 => xgR M53 61 (b + 54) (fun v54 => xaR M53 4 v54 (Int32.ofNat (tS T)) (fun v55 => xsI M53 v55 1 v47 (fun M56 => K M56))))))) (fun j258 => if v49 = 0 then jn (fun (_u : Unit) => xrk M48 (b + 54) 3 (xmb (m_X10_wrong M48 (b + 54) 2 v44) (fun _ M58 => j258 M58))) (fun j251 => if v40 = v47 then j251 () else xrk M48 (b + 54) 3 (xob (m_X10_isReadStreet M48 (b + 54) v40 v47) (fun v59 => if v59 = 0 then j258 M48 else j251 ()))) else j258 M48))))))))))))) = jn (fun (M50 : dwSt) => xgR M50 61 (b + 54) (fun v51 => xaR M50 4 v51 (Int32.ofNat (tS T)) (fun v52 => xsI M50 v52 0 v1 (fun M53 => xgR M53 61 (b + 54) (fun v54 => xaR M53 4 v54 (Int32.ofNat (tS T)) (fun v55 => xsI M53 v55 1 v2 (fun M56 => K M56))))))) (fun j258 => if dwI M4 (b + 54) 49 = 0 then jn (fun (_u : Unit) => xrk M4 (b + 54) 3 (xmb (m_X10_wrong M4 (b + 54) 2 (dwI M3 (b + 54) 48)) (fun _ M58 => j258 M58))) (fun j251 => if v1 = v2 then j251 () else xrk M4 (b + 54) 3 (xob (m_X10_isReadStreet M4 (b + 54) v1 v2) (fun v59 => if v59 = 0 then j258 M4 else j251 ()))) else j258 M4) := by
    simp only [gp54_55 sh1, xaI_u (show (dwK M (b + 57)).1 = 1 by rw [kd57 sh1]) (show inb 0 (dwK M (b + 57)).2 by rw [kd57 sh1]; exact inb_n (i := 0) (by omega) (by omega)), show (0 : Int32).toNatClampNeg = 0 from rfl, t0, xrk_u (kd54 sh1), e2, xmb_v, xrk_u (kd54 sh2), e3, xgI_u (show dwHas (dwK M3 (b + 54)) 48 = true by rw [kd54 sh3]; rfl), gp54_55 sh3, xaI_u (show (dwK M3 (b + 57)).1 = 1 by rw [kd57 sh3]) (show inb 0 (dwK M3 (b + 57)).2 by rw [kd57 sh3]; exact inb_n (i := 0) (by omega) (by omega)), t3, xrk_u (kd54 sh3), e4, xgI_u (show dwHas (dwK M4 (b + 54)) 49 = true by rw [kd54 sh4]; rfl)]
  rw [e0]
  refine jn_s (E := E) (Q := fun J => ∀ M5 : dwSt, fr (sWr b) nz 0 0 M M5 → tSt b M5 A L (match nuR (xbN A) L 0 (Int32.ofNat (tP T) - 1) (poR (nbS (xbN A) L 0 (Int32.ofNat (tP T) - 1) q)) with
    | .inl z => @ite _ (noSt T (vaR (nbS (xbN A) L 0 (Int32.ofNat (tP T) - 1) q)) z.1) (Classical.propDecidable _) (.inr (2, blS (xbN A) L (psR (nbS (xbN A) L 0 (Int32.ofNat (tP T) - 1) q)))) (.inl z.2)
    | .inr e => .inr e) → E (J M5)) fin ?_
  intro J hJ
  cases h1 : nbS (xbN A) L 0 (Int32.ofNat (tP T) - 1) q with
  | inr e =>
    rw [h1] at k4 hJ
    have k4' : tSt b M4 A L (.inr e) := k4
    rw [if_neg k4'.bad.2.2]
    exact hJ M4 F4 k4'
  | inl z =>
    rw [h1] at k4 ev1' ev2 hJ k3
    obtain ⟨a1, a2, a3, a4⟩ := nbS_le h.ok.2.2 h1
    have hzP : z.1 < tP T := inV_lt (by omega) (by omega) a4
    have k4' : tSt b M4 A L (poR (nbS (xbN A) L 0 (Int32.ofNat (tP T) - 1) z.2)) := k4
    have hJ' : ∀ M5 : dwSt, fr (sWr b) nz 0 0 M M5 → tSt b M5 A L (match nbS (xbN A) L 0 (Int32.ofNat (tP T) - 1) z.2 with
      | .inl y => @ite _ (noSt T z.1 y.1) (Classical.propDecidable _) (.inr (2, blS (xbN A) L z.2)) (.inl y.2)
      | .inr e => .inr e) → E (J M5) := hJ
    have ev2' : v2 = Int32.ofNat (vaR (nbS (xbN A) L 0 (Int32.ofNat (tP T) - 1) z.2)) := ev2
    cases h2 : nbS (xbN A) L 0 (Int32.ofNat (tP T) - 1) z.2 with
    | inr e =>
      rw [h2] at k4' hJ'
      have k4'' : tSt b M4 A L (.inr e) := k4'
      rw [if_neg k4''.bad.2.2]
      exact hJ' M4 F4 k4''
    | inl y =>
      rw [h2] at k4' hJ' ev2'
      obtain ⟨b1, b2, b3, b4⟩ := nbS_le a3 h2
      have hyP : y.1 < tP T := inV_lt (by omega) (by omega) b4
      have k4'' : tSt b M4 A L (.inl y.2) := k4'
      have k3' : tSt b M3 A L (.inl (blS (xbN A) L z.2)) := k3
      have ev1'' : v1 = Int32.ofNat z.1 := ev1'
      have ev2'' : v2 = Int32.ofNat y.1 := ev2'
      have hez : (v1 = v2) ↔ z.1 = y.1 := by rw [ev1'', ev2'']; exact i_inj (by omega) (by omega)
      have hJ2 : ∀ M5 : dwSt, fr (sWr b) nz 0 0 M M5 → tSt b M5 A L (@ite _ (noSt T z.1 y.1) (Classical.propDecidable _) (.inr (2, blS (xbN A) L z.2)) (.inl y.2)) → E (J M5) := hJ'
      rw [if_pos k4''.ok.2.1, jn_u, k3'.ok.1]
      have wr : noSt T z.1 y.1 → E (xrk M4 (b + 54) 3 (xmb (m_X10_wrong M4 (b + 54) 2 (Int32.ofNat (blS (xbN A) L z.2))) (fun _ M58 => J M58))) := by
        intro hno
        obtain ⟨M5, e5, f5, k5⟩ := tS_wrong (k := 2) k4'' (by omega) (blS (xbN A) L z.2)
        have e5' : m_X10_wrong M4 (b + 54) 2 (Int32.ofNat (blS (xbN A) L z.2)) = some ((), M5) := e5
        rw [xrk_u (kd54 sh4), e5', xmb_v]
        exact hJ2 M5 (F4.t0 f5) (by rw [if_pos hno]; exact k5)
      by_cases c1 : z.1 = y.1
      · rw [if_pos (hez.mpr c1)]
        exact wr (Or.inl c1)
      · obtain ⟨v, ev, hv⟩ := t_isSt sh4 T4 hO (show z.1 < 7 by omega) (show y.1 < 7 by omega)
        rw [if_neg (fun z => c1 (hez.mp z)), xrk_u (kd54 sh4), ev1'', ev2'', ev, xob_v]
        rcases hv with ⟨hv, hst⟩ | ⟨hv, hst⟩
        · rw [hv, if_neg (by decide)]
          exact wr (Or.inr hst)
        · rw [hv, if_pos rfl]
          exact hJ2 M4 F4 (by rw [if_neg (fun q => q.elim c1 hst)]; exact k4'')
theorem t_clG {E : Option ρ → Prop} {K : dwSt → Option ρ} {q k hi : Nat} (h : tSt b M A L (.inl q)) (hk : k < 5) (hK : ∀ M2, fr (fun a j => (a = b + 54 ∧ (j = 48 ∨ j = 49 ∨ j = 50)) ∨ (a = b + 57 ∧ j = k)) nz 0 0 M M2 → tSt b M2 A L (poR (nbS (xbN A) L 0 (Int32.ofNat hi) q)) → (∀ p, poR (nbS (xbN A) L 0 (Int32.ofNat hi) q) = .inl p → dwI M2 (b + 57) k = Int32.ofNat (vaR (nbS (xbN A) L 0 (Int32.ofNat hi) q))) → E (K M2)) : E (xrk M (b + 54) 3 (xmb (m_X10_number M (b + 54) 0 (Int32.ofNat hi)) (fun v63 M64 => xgI M64 49 (b + 54) (fun v65 => if v65 = 0 then xgR M64 55 (b + 54) (fun v66 => xsI M64 v66 (Int32.ofNat k) v63 (fun M67 => K M67)) else K M64)))) := by
  have sh1 := h.1.1
  obtain ⟨v1, M2, e2, f2, k2, ev1⟩ := tS_num (lo := 0) (hi := Int32.ofNat hi) h
  have k2' : tSt b M2 A L (poR (nbS (xbN A) L 0 (Int32.ofNat hi) q)) := k2
  have ev1' : v1 = Int32.ofNat (vaR (nbS (xbN A) L 0 (Int32.ofNat hi) q)) := ev1
  have sh2 := k2'.1.1
  have F2 := f2.mono (S' := fun a j => (a = b + 54 ∧ (j = 48 ∨ j = 49 ∨ j = 50)) ∨ (a = b + 57 ∧ j = k)) (Z' := nz) (fun a j z => Or.inl z) (fun _ _ z => z) (Nat.le_refl _) (Nat.le_refl _)
  generalize poR (nbS (xbN A) L 0 (Int32.ofNat hi) q) = R at *
  cases R with
  | inl p =>
    have z := k2'.ok.2.1
    simp only [↓gp0_2, ↓gp0_3, ↓gp0_4, ↓gp0_5, ↓gp0_6, ↓gp0_7, ↓gp0_8, ↓gp0_9, ↓gp0_10, ↓gp0_18, ↓gp0_19, ↓gp0_20, ↓gp0_22, ↓gp23_43, ↓gp23_32, ↓gp23_33, ↓gp23_34, ↓gp23_35, ↓gp23_36, ↓gp29_43, ↓gp29_32, ↓gp29_33, ↓gp29_34, ↓gp29_35, ↓gp29_36, ↓gp54_53, ↓gp54_54, ↓gp54_55, ↓gp54_56, ↓gp54_57, ↓gp54_58, ↓gp54_59, ↓gp54_60, ↓gp54_61, ↓gp54_62, ↓gp54_65, ↓gp54_66, ↓gp54_67, ↓gp54_68, ↓gp54_69, ↓gp54_70, ↓gp54_71, ↓gp54_73, ↓gp54_74, ↓gp54_75, ↓gp54_76, ↓gp54_84, ↓gp54_85, ↓gp54_87, ↓gp54_88, ↓xr59, kr59, ↓xr67, kr67, ↓xr75, kr75, ↓xr82, kr82, ↓xr89, kr89, ↓xr102, kr102, ↓xr115, kr115, ↓xr276, kr276, ↓xr437, kr437, ↓xr444, kr444, ↓xr453, kr453, ↓xr536, kr536, ↓xr553, kr553, hs0, hw0, hs1, hw1, hs2, hw2, hs3, hw3, hs4, hw4, hs5, hw5, hs6, hw6, hs7, hw7, hs8, hw8, hs9, hw9, hs10, hw10, hs11, hw11, hs12, hw12, hs13, hw13, hs14, hw14, hs15, hw15, hs16, hw16, hs17, hw17, hs18, hw18, hs19, hw19, hs20, hw20, hs21, hw21, hs22, hw22, hs23, hw23, hs25, hw25, hs26, hw26, hs27, hw27, hs28, hw28, hs9b, hw9b, hs10b, hw10b, kd0, kd20, kd21, kd22, kd23, kd24, kd25, kd26, kd27, kd28, kd29, kd30, kd31, kd32, kd33, kd34, kd35, kd36, kd37, kd38, kd39, kd40, kd41, kd42, kd54, kd55, kd56, kd57, kd58, kd59, kd67, kd75, kd82, kd89, kd102, kd115, kd276, kd437, kd444, kd451, kd452, kd453, kd534, kd535, kd536, kd553, kd557, kd558, kd559, kd560, kd561, ↓xgI_u, ↓xpI_u, ↓xaI_u, ↓xsI_u, ↓xrk_u, ↓xrk0_u, ↓xob_v, ↓xmb_v, ↓xth_v, ↓xth_x, ↓jn_u, ↓xlen_u, ↓xaL_u, ↓xsL_u, ↓xbl_0, ↓xbl_1, eq_self, inb_n, inb_d, Sh_PI, Sh_PL, dk_PI, dk_PL, dr_PI, dr_PL, ↓reduceIte, Int32.reduceLE, Int32.reduceLT, Int32.reduceToNatClampNeg, Nat.reduceLT, Nat.reduceLeDiff, Nat.reduceEqDiff, Nat.reduceAdd, Nat.reduceMul, sh1, e2, sh2, z, if_true, hk, i_nat (show k < 2147483648 by omega)]
    exact hK _ (F2.pI _ (Or.inl (Or.inr ⟨rfl, rfl⟩))) (k2'.fr (frP M2 (b + 57) k v1) (fun j hj => by omega) (fun j => by omega) nz_p) (fun p' _ => by rw [di_eq, ev1'])
  | inr e =>
    have z := k2'.bad.2.2
    simp only [↓gp0_2, ↓gp0_3, ↓gp0_4, ↓gp0_5, ↓gp0_6, ↓gp0_7, ↓gp0_8, ↓gp0_9, ↓gp0_10, ↓gp0_18, ↓gp0_19, ↓gp0_20, ↓gp0_22, ↓gp23_43, ↓gp23_32, ↓gp23_33, ↓gp23_34, ↓gp23_35, ↓gp23_36, ↓gp29_43, ↓gp29_32, ↓gp29_33, ↓gp29_34, ↓gp29_35, ↓gp29_36, ↓gp54_53, ↓gp54_54, ↓gp54_55, ↓gp54_56, ↓gp54_57, ↓gp54_58, ↓gp54_59, ↓gp54_60, ↓gp54_61, ↓gp54_62, ↓gp54_65, ↓gp54_66, ↓gp54_67, ↓gp54_68, ↓gp54_69, ↓gp54_70, ↓gp54_71, ↓gp54_73, ↓gp54_74, ↓gp54_75, ↓gp54_76, ↓gp54_84, ↓gp54_85, ↓gp54_87, ↓gp54_88, ↓xr59, kr59, ↓xr67, kr67, ↓xr75, kr75, ↓xr82, kr82, ↓xr89, kr89, ↓xr102, kr102, ↓xr115, kr115, ↓xr276, kr276, ↓xr437, kr437, ↓xr444, kr444, ↓xr453, kr453, ↓xr536, kr536, ↓xr553, kr553, hs0, hw0, hs1, hw1, hs2, hw2, hs3, hw3, hs4, hw4, hs5, hw5, hs6, hw6, hs7, hw7, hs8, hw8, hs9, hw9, hs10, hw10, hs11, hw11, hs12, hw12, hs13, hw13, hs14, hw14, hs15, hw15, hs16, hw16, hs17, hw17, hs18, hw18, hs19, hw19, hs20, hw20, hs21, hw21, hs22, hw22, hs23, hw23, hs25, hw25, hs26, hw26, hs27, hw27, hs28, hw28, hs9b, hw9b, hs10b, hw10b, kd0, kd20, kd21, kd22, kd23, kd24, kd25, kd26, kd27, kd28, kd29, kd30, kd31, kd32, kd33, kd34, kd35, kd36, kd37, kd38, kd39, kd40, kd41, kd42, kd54, kd55, kd56, kd57, kd58, kd59, kd67, kd75, kd82, kd89, kd102, kd115, kd276, kd437, kd444, kd451, kd452, kd453, kd534, kd535, kd536, kd553, kd557, kd558, kd559, kd560, kd561, ↓xgI_u, ↓xpI_u, ↓xaI_u, ↓xsI_u, ↓xrk_u, ↓xrk0_u, ↓xob_v, ↓xmb_v, ↓xth_v, ↓xth_x, ↓jn_u, ↓xlen_u, ↓xaL_u, ↓xsL_u, ↓xbl_0, ↓xbl_1, eq_self, inb_n, inb_d, Sh_PI, Sh_PL, dk_PI, dk_PL, dr_PI, dr_PL, ↓reduceIte, Int32.reduceLE, Int32.reduceLT, Int32.reduceToNatClampNeg, Nat.reduceLT, Nat.reduceLeDiff, Nat.reduceEqDiff, Nat.reduceAdd, Nat.reduceMul, sh1, e2, sh2, z, if_false]
    exact hK _ F2 k2' (fun p' z => by cases z)
end LAND
