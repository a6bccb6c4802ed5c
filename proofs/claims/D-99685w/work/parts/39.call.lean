/-- how many, and the first -/
def cfS (g : Nat → Bool) (n : Nat) : Nat × Int32 := itr (fun k s => if g k then (s.1 + 1, if s.1 = 0 then Int32.ofNat k else s.2) else s) (0, -1) n
theorem cfS_e (g : Nat → Bool) (n : Nat) : cfS g (n + 1) = if g n then ((cfS g n).1 + 1, if (cfS g n).1 = 0 then Int32.ofNat n else (cfS g n).2) else cfS g n := rfl
theorem cfS_i (g : Nat → Bool) : ∀ n, n < 1000000 → (cfS g n).1 ≤ n ∧ ((cfS g n).1 = 0 ↔ (cfS g n).2 = -1) := by
  intro n
  induction n with
  | zero => intro _; exact ⟨Nat.le_refl _, fun _ => rfl, fun _ => rfl⟩
  | succ n ih =>
    intro h
    obtain ⟨h1, h2⟩ := ih (by omega)
    rw [cfS_e]
    by_cases e : g n = true
    · rw [if_pos e]
      refine ⟨by show _ + 1 ≤ _; omega, fun q => by simp at q, fun q => ?_⟩
      exfalso
      by_cases e0 : (cfS g n).1 = 0
      · simp only [e0, if_true] at q
        rw [nn_m1 (by omega)] at q
        exact q
      · simp only [e0, if_false] at q
        exact e0 (h2.mpr q)
    · rw [if_neg e]
      exact ⟨by omega, h2⟩
def fitG (A : dvA) (p k : Nat) : Bool := fitB A p (Int32.ofNat (k / 10)) (Int32.ofNat (k % 10))
def fitV (A : dvA) (p : Nat) (y : Int32) : Int32 := if y = 0 then Int32.ofNat (cfS (fitG A p) 100).1 else (cfS (fitG A p) 100).2
section CALL
variable {b : Nat} {w : Nat → Nat} {M : dwSt} {A : dvA}
theorem T_fits {p : Nat} {y : Int32} (hT : TInv b M A) (hp : p < tP (aT A)) (hy : inV y 0 1 = 1) : ∃ M2, m_X10_fits M (b + 54) (Int32.ofNat p) y = some (fitV A p y, M2) ∧ fr (tSc b) nz 0 0 (dwPI M (b + 54) 44 0) M2 := by
  obtain ⟨hT0, f0, z0⟩ := tinv_z hT
  have o1 := hT.1.ok.1.1
  simp -implicitDefEqProofs only [m_X10_fits, ↓gp0_2, ↓gp0_3, ↓gp0_4, ↓gp0_5, ↓gp0_6, ↓gp0_7, ↓gp0_8, ↓gp0_9, ↓gp0_10, ↓gp0_18, ↓gp0_19, ↓gp0_20, ↓gp0_22, ↓gp23_43, ↓gp23_32, ↓gp23_33, ↓gp23_34, ↓gp23_35, ↓gp23_36, ↓gp29_43, ↓gp29_32, ↓gp29_33, ↓gp29_34, ↓gp29_35, ↓gp29_36, ↓gp54_53, ↓gp54_54, ↓gp54_55, ↓gp54_56, ↓gp54_57, ↓gp54_58, ↓gp54_59, ↓gp54_60, ↓gp54_61, ↓gp54_62, ↓gp54_65, ↓gp54_66, ↓gp54_67, ↓gp54_68, ↓gp54_69, ↓gp54_70, ↓gp54_71, ↓gp54_73, ↓gp54_74, ↓gp54_75, ↓gp54_76, ↓gp54_84, ↓gp54_85, ↓gp54_87, ↓gp54_88, ↓xr59, kr59, ↓xr67, kr67, ↓xr75, kr75, ↓xr82, kr82, ↓xr89, kr89, ↓xr102, kr102, ↓xr115, kr115, ↓xr276, kr276, ↓xr437, kr437, ↓xr444, kr444, ↓xr453, kr453, ↓xr536, kr536, ↓xr553, kr553, hs0, hw0, hs1, hw1, hs2, hw2, hs3, hw3, hs4, hw4, hs5, hw5, hs6, hw6, hs7, hw7, hs8, hw8, hs9, hw9, hs10, hw10, hs11, hw11, hs12, hw12, hs13, hw13, hs14, hw14, hs15, hw15, hs16, hw16, hs17, hw17, hs18, hw18, hs19, hw19, hs20, hw20, hs21, hw21, hs22, hw22, hs23, hw23, hs25, hw25, hs26, hw26, hs27, hw27, hs28, hw28, hs9b, hw9b, hs10b, hw10b, kd0, kd20, kd21, kd22, kd23, kd24, kd25, kd26, kd27, kd28, kd29, kd30, kd31, kd32, kd33, kd34, kd35, kd36, kd37, kd38, kd39, kd40, kd41, kd42, kd54, kd55, kd56, kd57, kd58, kd59, kd67, kd75, kd82, kd89, kd102, kd115, kd276, kd437, kd444, kd451, kd452, kd453, kd534, kd535, kd536, kd553, kd557, kd558, kd559, kd560, kd561, ↓xgI_u, ↓xpI_u, ↓xaI_u, ↓xsI_u, ↓xrk_u, ↓xrk0_u, ↓xob_v, ↓xmb_v, ↓xth_v, ↓xth_x, ↓jn_u, ↓xlen_u, ↓xaL_u, ↓xsL_u, ↓xbl_0, ↓xbl_1, eq_self, inb_n, inb_d, Sh_PI, Sh_PL, dk_PI, dk_PL, dr_PI, dr_PL, ↓reduceIte, Int32.reduceLE, Int32.reduceLT, Int32.reduceToNatClampNeg, Nat.reduceLT, Nat.reduceLeDiff, Nat.reduceEqDiff, Nat.reduceAdd, Nat.reduceMul, hT.1.1, t_isP hT0.1.1 hT0.1.2.1, t_inT hp (by omega), e10, t_bad0 hT0.1.1 z0, t_in, hy]
  refine lpx (E := fun x => ∃ M2, x = some (fitV A p y, M2) ∧ fr (tSc b) nz 0 0 (dwPI M (b + 54) 44 0) M2) (fun f i (s : (Int32 × Int32) × dwSt) => L_X10_fits_60 (b + 54) (Int32.ofNat p) y (fun (y12 : Int32) (y13 : Int32) (M14 : dwSt) => if y = 0 then some (y12, M14) else some (y13, M14)) f s.1.1 s.1.2 (Int32.ofNat i) s.2) 100 (fun i s => s.1.1 = Int32.ofNat (cfS (fitG A p) i).1 ∧ s.1.2 = (cfS (fitG A p) i).2 ∧ fr (tSc b) nz 0 0 (dwPI M (b + 54) 44 0) s.2) ?_ ?_ 1000000 0 ((0, -1), dwPI M (b + 54) 44 0) (by omega) (by omega) ⟨rfl, rfl, fr.refl _⟩
  · intro f ⟨⟨x, z⟩, M1⟩ ⟨e1, e2, hf⟩
    refine ⟨M1, ?_, hf⟩
    show L_X10_fits_60 (b + 54) (Int32.ofNat p) y _ (f + 1) x z _ M1 = _
    rw [L_X10_fits_60, if_pos (by decide), show x = _ from e1, show z = _ from e2]
    unfold fitV
    by_cases h : y = 0
    · rw [if_pos h, if_pos h]
    · rw [if_neg h, if_neg h]
  · intro f i ⟨⟨x, z⟩, M1⟩ hi ⟨e1, e2, hf⟩ hn
    have c1 := tinv_s hT0 hf
    obtain ⟨q1, q2⟩ := cfS_i (fitG A p) i (by omega)
    have e1' : x = _ := e1
    have e2' : z = _ := e2
    obtain ⟨M2, u, f2⟩ := T_isTaste (t := Int32.ofNat (i / 10)) (g := Int32.ofNat (i % 10)) c1 hp
    have h100 := i_geF hi (by omega)
    show ∃ M3, L_X10_fits_60 (b + 54) (Int32.ofNat p) y _ (f + 1) x z _ M1 = _ ∧ _
    rw [L_X10_fits_60, if_neg (show ¬ (100 : Int32) ≤ Int32.ofNat i from fun q => (h100 ▸ q : False)), xdiv_u e100, xrem_u e100, x_d10 (by omega), x_r10 (by omega)]
    simp only [↓gp0_2, ↓gp0_3, ↓gp0_4, ↓gp0_5, ↓gp0_6, ↓gp0_7, ↓gp0_8, ↓gp0_9, ↓gp0_10, ↓gp0_18, ↓gp0_19, ↓gp0_20, ↓gp0_22, ↓gp23_43, ↓gp23_32, ↓gp23_33, ↓gp23_34, ↓gp23_35, ↓gp23_36, ↓gp29_43, ↓gp29_32, ↓gp29_33, ↓gp29_34, ↓gp29_35, ↓gp29_36, ↓gp54_53, ↓gp54_54, ↓gp54_55, ↓gp54_56, ↓gp54_57, ↓gp54_58, ↓gp54_59, ↓gp54_60, ↓gp54_61, ↓gp54_62, ↓gp54_65, ↓gp54_66, ↓gp54_67, ↓gp54_68, ↓gp54_69, ↓gp54_70, ↓gp54_71, ↓gp54_73, ↓gp54_74, ↓gp54_75, ↓gp54_76, ↓gp54_84, ↓gp54_85, ↓gp54_87, ↓gp54_88, ↓xr59, kr59, ↓xr67, kr67, ↓xr75, kr75, ↓xr82, kr82, ↓xr89, kr89, ↓xr102, kr102, ↓xr115, kr115, ↓xr276, kr276, ↓xr437, kr437, ↓xr444, kr444, ↓xr453, kr453, ↓xr536, kr536, ↓xr553, kr553, hs0, hw0, hs1, hw1, hs2, hw2, hs3, hw3, hs4, hw4, hs5, hw5, hs6, hw6, hs7, hw7, hs8, hw8, hs9, hw9, hs10, hw10, hs11, hw11, hs12, hw12, hs13, hw13, hs14, hw14, hs15, hw15, hs16, hw16, hs17, hw17, hs18, hw18, hs19, hw19, hs20, hw20, hs21, hw21, hs22, hw22, hs23, hw23, hs25, hw25, hs26, hw26, hs27, hw27, hs28, hw28, hs9b, hw9b, hs10b, hw10b, kd0, kd20, kd21, kd22, kd23, kd24, kd25, kd26, kd27, kd28, kd29, kd30, kd31, kd32, kd33, kd34, kd35, kd36, kd37, kd38, kd39, kd40, kd41, kd42, kd54, kd55, kd56, kd57, kd58, kd59, kd67, kd75, kd82, kd89, kd102, kd115, kd276, kd437, kd444, kd451, kd452, kd453, kd534, kd535, kd536, kd553, kd557, kd558, kd559, kd560, kd561, ↓xgI_u, ↓xpI_u, ↓xaI_u, ↓xsI_u, ↓xrk_u, ↓xrk0_u, ↓xob_v, ↓xmb_v, ↓xth_v, ↓xth_x, ↓jn_u, ↓xlen_u, ↓xaL_u, ↓xsL_u, ↓xbl_0, ↓xbl_1, eq_self, inb_n, inb_d, Sh_PI, Sh_PL, dk_PI, dk_PL, dr_PI, dr_PL, ↓reduceIte, Int32.reduceLE, Int32.reduceLT, Int32.reduceToNatClampNeg, Nat.reduceLT, Nat.reduceLeDiff, Nat.reduceEqDiff, Nat.reduceAdd, Nat.reduceMul, c1.1.1, u, i_succ]
    by_cases hg : fitG A p i = true
    · have hg' : fitB A p (Int32.ofNat (i / 10)) (Int32.ofNat (i % 10)) = true := hg
      rw [if_pos hg', if_neg (by decide)]
      have es := cfS_e (fitG A p) i
      rw [if_pos hg] at es
      by_cases h0 : (cfS (fitG A p) i).1 = 0
      · rw [if_pos h0] at es
        rw [e1', h0, if_pos (by rfl)]
        exact hn ((Int32.ofNat 0 + 1, Int32.ofNat i), M2) ⟨by rw [es, h0]; rfl, by rw [es], hf.t0 (sKn_s f2)⟩
      · rw [if_neg h0] at es
        rw [e1', if_neg (by rw [← i_zero, i_inj (by omega) (by omega)]; exact h0)]
        exact hn ((Int32.ofNat _ + 1, z), M2) ⟨by rw [es]; exact i_succ _, by rw [es]; exact e2', hf.t0 (sKn_s f2)⟩
    · have hg' : ¬ fitB A p (Int32.ofNat (i / 10)) (Int32.ofNat (i % 10)) = true := hg
      rw [if_neg hg', if_pos rfl]
      have es := cfS_e (fitG A p) i
      rw [if_neg hg] at es
      exact hn ((x, z), M2) ⟨by rw [es]; exact e1', by rw [es]; exact e2', hf.t0 (sKn_s f2)⟩
theorem C_fits {p : Nat} {y : Int32} (hC : CInv b w M A) (hp : p < tP (aT A)) (hy : inV y 0 1 = 1) : ∃ M1, m_X1_fits M b (Int32.ofNat p) y = some (.inl (fitV A p y), M1) ∧ fr (cSc b) nz 0 0 M M1 := by
  simp -implicitDefEqProofs only [m_X1_fits, ↓xgI_u, ↓xpI_u, ↓xaI_u, ↓xsI_u, ↓xrk_u, ↓xrk0_u, ↓xob_v, ↓xmb_v, ↓xth_v, ↓xth_x, ↓jn_u, ↓xlen_u, ↓xaL_u, ↓xsL_u, ↓xbl_0, ↓xbl_1, eq_self, inb_n, inb_d, Sh_PI, Sh_PL, dk_PI, dk_PL, dr_PI, dr_PL, ↓reduceIte, Int32.reduceLE, Int32.reduceLT, Int32.reduceToNatClampNeg, Nat.reduceLT, Nat.reduceLeDiff, Nat.reduceEqDiff, Nat.reduceAdd, Nat.reduceMul, kd0 hC.1.1, c_needPT hC hp, c_part, c_need1 hy]
  refine lpx (E := fun x => ∃ M1, x = some (.inl (fitV A p y), M1) ∧ fr (cSc b) nz 0 0 M M1) (fun f i (s : (Int32 × Int32) × dwSt) => L_X1_fits_21 b (Int32.ofNat p) y (fun (y6 : Int32) (y7 : Int32) (M8 : dwSt) => (if y = 0 then some (.inl y6, M8) else some (.inl y7, M8) : dwR9 Int32)) f s.1.1 s.1.2 (Int32.ofNat i) s.2) 10 (fun i s => s.1.1 = Int32.ofNat (cfS (fitG A p) (10 * i)).1 ∧ s.1.2 = (cfS (fitG A p) (10 * i)).2 ∧ fr (cSc b) nz 0 0 M s.2) ?_ ?_ 1000000 0 ((0, -1), M) (by omega) (by omega) ⟨rfl, rfl, fr.refl _⟩
  · intro f ⟨⟨x, z⟩, M1⟩ ⟨e1, e2, hf⟩
    refine ⟨M1, ?_, hf⟩
    show L_X1_fits_21 b (Int32.ofNat p) y _ (f + 1) x z _ M1 = _
    rw [L_X1_fits_21, if_pos (by decide), show x = _ from e1, show z = _ from e2]
    unfold fitV
    by_cases h : y = 0
    · rw [if_pos h, if_pos h]
    · rw [if_neg h, if_neg h]
  · intro f i ⟨⟨x, z⟩, M1⟩ hi ⟨e1, e2, hf⟩ hn
    have h10 := i_geF hi (by omega)
    show ∃ M3, L_X1_fits_21 b (Int32.ofNat p) y _ (f + 1) x z _ M1 = _ ∧ _
    rw [L_X1_fits_21, if_neg (show ¬ (10 : Int32) ≤ Int32.ofNat i from fun q => (h10 ▸ q : False)), jn_u, i_succ]
    refine lpx (E := fun x => ∃ M1, x = some (.inl (fitV A p y), M1) ∧ fr (cSc b) nz 0 0 M M1) (fun f' g (s : (Int32 × Int32) × dwSt) => L_X1_fits_31 b (Int32.ofNat p) y (Int32.ofNat i) (fun (y9 : Int32) (y10 : Int32) (M11 : dwSt) => L_X1_fits_21 b (Int32.ofNat p) y (fun (y6 : Int32) (y7 : Int32) (M8 : dwSt) => (if y = 0 then some (.inl y6, M8) else some (.inl y7, M8) : dwR9 Int32)) f y9 y10 (Int32.ofNat (i + 1)) M11) f' s.1.1 s.1.2 (Int32.ofNat g) s.2) 10 (fun g s => s.1.1 = Int32.ofNat (cfS (fitG A p) (10 * i + g)).1 ∧ s.1.2 = (cfS (fitG A p) (10 * i + g)).2 ∧ fr (cSc b) nz 0 0 M s.2) ?_ ?_ 1000000 0 ((x, z), M1) (by omega) (by omega) ⟨e1, e2, hf⟩
    · intro f' ⟨⟨x, z⟩, M1⟩ ⟨e1, e2, hf⟩
      show ∃ M3, L_X1_fits_31 b (Int32.ofNat p) y (Int32.ofNat i) _ (f' + 1) x z _ M1 = _ ∧ _
      rw [L_X1_fits_31, if_pos (by decide)]
      exact hn ((x, z), M1) ⟨e1, e2, hf⟩
    · intro f' g ⟨⟨x, z⟩, M1⟩ hg10 ⟨e1, e2, hf⟩ hn2
      have c1 := cinv_s hC hf
      obtain ⟨q1, q2⟩ := cfS_i (fitG A p) (10 * i + g) (by omega)
      have e1' : x = _ := e1
      have e2' : z = _ := e2
      obtain ⟨M2, u, f2⟩ := C_isFit (t := Int32.ofNat i) (g := Int32.ofNat g) c1 hp
      have hf2 := hf.t0 (sFa_c f2)
      have h9 : ((9 : Int32) < Int32.ofNat g) = False := by
        rw [show (9 : Int32) = Int32.ofNat 9 from rfl, i_lt (by omega) (by omega)]; exact eq_false (by omega)
      have eg : fitG A p (10 * i + g) = fitB A p (Int32.ofNat i) (Int32.ofNat g) := by
        unfold fitG; rw [show (10 * i + g) / 10 = i by omega, show (10 * i + g) % 10 = g by omega]
      have ek : (10 : Int32) * Int32.ofNat i + Int32.ofNat g = Int32.ofNat (10 * i + g) := by
        rw [show (10 : Int32) = Int32.ofNat 10 from rfl, i_mul, i_add]
      show ∃ M3, L_X1_fits_31 b (Int32.ofNat p) y (Int32.ofNat i) _ (f' + 1) x z _ M1 = _ ∧ _
      rw [L_X1_fits_31, if_neg (by rw [h9]; exact id)]
      simp only [↓gp0_2, ↓gp0_3, ↓gp0_4, ↓gp0_5, ↓gp0_6, ↓gp0_7, ↓gp0_8, ↓gp0_9, ↓gp0_10, ↓gp0_18, ↓gp0_19, ↓gp0_20, ↓gp0_22, ↓gp23_43, ↓gp23_32, ↓gp23_33, ↓gp23_34, ↓gp23_35, ↓gp23_36, ↓gp29_43, ↓gp29_32, ↓gp29_33, ↓gp29_34, ↓gp29_35, ↓gp29_36, ↓gp54_53, ↓gp54_54, ↓gp54_55, ↓gp54_56, ↓gp54_57, ↓gp54_58, ↓gp54_59, ↓gp54_60, ↓gp54_61, ↓gp54_62, ↓gp54_65, ↓gp54_66, ↓gp54_67, ↓gp54_68, ↓gp54_69, ↓gp54_70, ↓gp54_71, ↓gp54_73, ↓gp54_74, ↓gp54_75, ↓gp54_76, ↓gp54_84, ↓gp54_85, ↓gp54_87, ↓gp54_88, ↓xr59, kr59, ↓xr67, kr67, ↓xr75, kr75, ↓xr82, kr82, ↓xr89, kr89, ↓xr102, kr102, ↓xr115, kr115, ↓xr276, kr276, ↓xr437, kr437, ↓xr444, kr444, ↓xr453, kr453, ↓xr536, kr536, ↓xr553, kr553, hs0, hw0, hs1, hw1, hs2, hw2, hs3, hw3, hs4, hw4, hs5, hw5, hs6, hw6, hs7, hw7, hs8, hw8, hs9, hw9, hs10, hw10, hs11, hw11, hs12, hw12, hs13, hw13, hs14, hw14, hs15, hw15, hs16, hw16, hs17, hw17, hs18, hw18, hs19, hw19, hs20, hw20, hs21, hw21, hs22, hw22, hs23, hw23, hs25, hw25, hs26, hw26, hs27, hw27, hs28, hw28, hs9b, hw9b, hs10b, hw10b, kd0, kd20, kd21, kd22, kd23, kd24, kd25, kd26, kd27, kd28, kd29, kd30, kd31, kd32, kd33, kd34, kd35, kd36, kd37, kd38, kd39, kd40, kd41, kd42, kd54, kd55, kd56, kd57, kd58, kd59, kd67, kd75, kd82, kd89, kd102, kd115, kd276, kd437, kd444, kd451, kd452, kd453, kd534, kd535, kd536, kd553, kd557, kd558, kd559, kd560, kd561, ↓xgI_u, ↓xpI_u, ↓xaI_u, ↓xsI_u, ↓xrk_u, ↓xrk0_u, ↓xob_v, ↓xmb_v, ↓xth_v, ↓xth_x, ↓jn_u, ↓xlen_u, ↓xaL_u, ↓xsL_u, ↓xbl_0, ↓xbl_1, eq_self, inb_n, inb_d, Sh_PI, Sh_PL, dk_PI, dk_PL, dr_PI, dr_PL, ↓reduceIte, Int32.reduceLE, Int32.reduceLT, Int32.reduceToNatClampNeg, Nat.reduceLT, Nat.reduceLeDiff, Nat.reduceEqDiff, Nat.reduceAdd, Nat.reduceMul, c1.1.1, u, i_succ, ek]
      have es := cfS_e (fitG A p) (10 * i + g)
      by_cases hg : fitB A p (Int32.ofNat i) (Int32.ofNat g) = true
      · rw [if_pos hg, if_neg (by decide)]
        rw [eg, if_pos hg] at es
        by_cases h0 : (cfS (fitG A p) (10 * i + g)).1 = 0
        · rw [if_pos h0] at es
          rw [if_pos (e2'.trans (q2.mp h0))]
          exact hn2 ((x + 1, Int32.ofNat (10 * i + g)), M2) ⟨by rw [← Nat.add_assoc, es]; show x + 1 = _; rw [e1', i_succ], by rw [← Nat.add_assoc, es], hf2⟩
        · rw [if_neg h0] at es
          rw [if_neg (fun q => h0 (q2.mpr (e2'.symm.trans q)))]
          exact hn2 ((x + 1, z), M2) ⟨by rw [← Nat.add_assoc, es]; show x + 1 = _; rw [e1', i_succ], by rw [← Nat.add_assoc, es]; exact e2', hf2⟩
      · rw [if_neg hg, if_pos rfl]
        rw [eg, if_neg hg] at es
        exact hn2 ((x, z), M2) ⟨by rw [← Nat.add_assoc, es]; exact e1', by rw [← Nat.add_assoc, es]; exact e2', hf2⟩
/-! the worst that may be left of one's tastes -/
def wrsS (A : dvA) (p j n : Nat) : (Nat → Int32) × Int32 := itr (fun k s => if fitG A p k then (rset s.1 (laughS (aT A) (aLw A) (aNow A) j p (Int32.ofNat (k / 10)) (Int32.ofNat (k % 10)) 0).toNatClampNeg (s.1 (laughS (aT A) (aLw A) (aNow A) j p (Int32.ofNat (k / 10)) (Int32.ofNat (k % 10)) 0).toNatClampNeg + 1), moreS s.2 (s.1 (laughS (aT A) (aLw A) (aNow A) j p (Int32.ofNat (k / 10)) (Int32.ofNat (k % 10)) 0).toNatClampNeg + 1)) else s) (fun _ => 0, 0) n
theorem wrsS_e (A : dvA) (p j n : Nat) : wrsS A p j (n + 1) = if fitG A p n then (rset (wrsS A p j n).1 (laughS (aT A) (aLw A) (aNow A) j p (Int32.ofNat (n / 10)) (Int32.ofNat (n % 10)) 0).toNatClampNeg ((wrsS A p j n).1 (laughS (aT A) (aLw A) (aNow A) j p (Int32.ofNat (n / 10)) (Int32.ofNat (n % 10)) 0).toNatClampNeg + 1), moreS (wrsS A p j n).2 ((wrsS A p j n).1 (laughS (aT A) (aLw A) (aNow A) j p (Int32.ofNat (n / 10)) (Int32.ofNat (n % 10)) 0).toNatClampNeg + 1)) else wrsS A p j n := rfl
theorem T_worstAt {p j : Nat} (hT : TInv b M A) (hp : p < tP (aT A)) (hj : j < tJ (aT A)) : ∃ M2, m_X10_worstAt M (b + 54) (Int32.ofNat p) (Int32.ofNat j) = some ((wrsS A p j 100).2, M2) ∧ fr (tSc b) nz 0 0 M M2 := by
  simp -implicitDefEqProofs only [m_X10_worstAt, jn_u]
  refine lpx (E := fun x => ∃ M2, x = some ((wrsS A p j 100).2, M2) ∧ fr (tSc b) nz 0 0 M M2) (fun f i (M1 : dwSt) => L_X10_worstAt_5 (b + 54) (Int32.ofNat p) (Int32.ofNat j) 0 (fun (M1 : dwSt) => L_X10_worstAt_29 (b + 54) (Int32.ofNat p) (Int32.ofNat j) (fun (y2 : Int32) (M3 : dwSt) => some (y2, M3)) 1000000 0 0 M1) f (Int32.ofNat i) M1) 41 (fun i M1 => (∀ v, v < i → dwI M1 (b + 559) v = 0) ∧ fr (tSc b) nz 0 0 M M1) ?_ ?_ 1000000 0 M (by omega) (by omega) ⟨fun v h => by omega, fr.refl M⟩
  · intro f M1 ⟨e, hf⟩
    show ∃ M2, L_X10_worstAt_5 (b + 54) (Int32.ofNat p) (Int32.ofNat j) 0 _ (f + 1) (Int32.ofNat 41) M1 = _ ∧ _
    rw [L_X10_worstAt_5, if_pos (by decide)]
    refine lpx (E := fun x => ∃ M2, x = some ((wrsS A p j 100).2, M2) ∧ fr (tSc b) nz 0 0 M M2) (fun f i (s : Int32 × dwSt) => L_X10_worstAt_29 (b + 54) (Int32.ofNat p) (Int32.ofNat j) (fun (y2 : Int32) (M3 : dwSt) => some (y2, M3)) f s.1 (Int32.ofNat i) s.2) 100 (fun i s => s.1 = (wrsS A p j i).2 ∧ (∀ v, v < 41 → dwI s.2 (b + 559) v = (wrsS A p j i).1 v) ∧ fr (tSc b) nz 0 0 M s.2) ?_ ?_ 1000000 0 (0, M1) (by omega) (by omega) ⟨rfl, e, hf⟩
    · intro f ⟨x, M1⟩ ⟨e1, e2, hf⟩
      refine ⟨M1, ?_, hf⟩
      show L_X10_worstAt_29 (b + 54) (Int32.ofNat p) (Int32.ofNat j) _ (f + 1) x (Int32.ofNat 100) M1 = _
      rw [L_X10_worstAt_29, if_pos (by decide), show x = _ from e1]
    · intro f i ⟨x, M1⟩ hi ⟨e1, e2, hf⟩ hn
      have hf : fr (tSc b) nz 0 0 M M1 := hf
      have c1 := tinv_s hT hf
      have e1' : x = _ := e1
      obtain ⟨M2, u, f2⟩ := T_isTaste (t := Int32.ofNat (i / 10)) (g := Int32.ofNat (i % 10)) c1 hp
      have hf2 := hf.t0 (sKn_s f2)
      have c2 := tinv_s hT hf2
      have h100 := i_geF hi (by omega)
      have es := wrsS_e A p j i
      show ∃ M3, L_X10_worstAt_29 (b + 54) (Int32.ofNat p) (Int32.ofNat j) _ (f + 1) x (Int32.ofNat i) M1 = _ ∧ _
      rw [L_X10_worstAt_29, if_neg (show ¬ (100 : Int32) ≤ Int32.ofNat i from fun q => (h100 ▸ q : False)), xdiv_u e100, xrem_u e100, x_d10 (by omega), x_r10 (by omega)]
      simp only [↓gp0_2, ↓gp0_3, ↓gp0_4, ↓gp0_5, ↓gp0_6, ↓gp0_7, ↓gp0_8, ↓gp0_9, ↓gp0_10, ↓gp0_18, ↓gp0_19, ↓gp0_20, ↓gp0_22, ↓gp23_43, ↓gp23_32, ↓gp23_33, ↓gp23_34, ↓gp23_35, ↓gp23_36, ↓gp29_43, ↓gp29_32, ↓gp29_33, ↓gp29_34, ↓gp29_35, ↓gp29_36, ↓gp54_53, ↓gp54_54, ↓gp54_55, ↓gp54_56, ↓gp54_57, ↓gp54_58, ↓gp54_59, ↓gp54_60, ↓gp54_61, ↓gp54_62, ↓gp54_65, ↓gp54_66, ↓gp54_67, ↓gp54_68, ↓gp54_69, ↓gp54_70, ↓gp54_71, ↓gp54_73, ↓gp54_74, ↓gp54_75, ↓gp54_76, ↓gp54_84, ↓gp54_85, ↓gp54_87, ↓gp54_88, ↓xr59, kr59, ↓xr67, kr67, ↓xr75, kr75, ↓xr82, kr82, ↓xr89, kr89, ↓xr102, kr102, ↓xr115, kr115, ↓xr276, kr276, ↓xr437, kr437, ↓xr444, kr444, ↓xr453, kr453, ↓xr536, kr536, ↓xr553, kr553, hs0, hw0, hs1, hw1, hs2, hw2, hs3, hw3, hs4, hw4, hs5, hw5, hs6, hw6, hs7, hw7, hs8, hw8, hs9, hw9, hs10, hw10, hs11, hw11, hs12, hw12, hs13, hw13, hs14, hw14, hs15, hw15, hs16, hw16, hs17, hw17, hs18, hw18, hs19, hw19, hs20, hw20, hs21, hw21, hs22, hw22, hs23, hw23, hs25, hw25, hs26, hw26, hs27, hw27, hs28, hw28, hs9b, hw9b, hs10b, hw10b, kd0, kd20, kd21, kd22, kd23, kd24, kd25, kd26, kd27, kd28, kd29, kd30, kd31, kd32, kd33, kd34, kd35, kd36, kd37, kd38, kd39, kd40, kd41, kd42, kd54, kd55, kd56, kd57, kd58, kd59, kd67, kd75, kd82, kd89, kd102, kd115, kd276, kd437, kd444, kd451, kd452, kd453, kd534, kd535, kd536, kd553, kd557, kd558, kd559, kd560, kd561, ↓xgI_u, ↓xpI_u, ↓xaI_u, ↓xsI_u, ↓xrk_u, ↓xrk0_u, ↓xob_v, ↓xmb_v, ↓xth_v, ↓xth_x, ↓jn_u, ↓xlen_u, ↓xaL_u, ↓xsL_u, ↓xbl_0, ↓xbl_1, eq_self, inb_n, inb_d, Sh_PI, Sh_PL, dk_PI, dk_PL, dr_PI, dr_PL, ↓reduceIte, Int32.reduceLE, Int32.reduceLT, Int32.reduceToNatClampNeg, Nat.reduceLT, Nat.reduceLeDiff, Nat.reduceEqDiff, Nat.reduceAdd, Nat.reduceMul, c1.1.1, u, i_succ]
      by_cases hg : fitG A p i = true
      · have hg' : fitB A p (Int32.ofNat (i / 10)) (Int32.ofNat (i % 10)) = true := hg
        rw [if_pos hg', if_neg (by decide)]
        rw [if_pos hg] at es
        obtain ⟨M3, u3, f3⟩ := t_laughWith (t := Int32.ofNat (i / 10)) (g := Int32.ofNat (i % 10)) (m := 0) c2.e (kd534 c2.1.1) hj hp
        rw [c2.1.2.2.2.2.1] at u3
        have hf3 := hf2.t0 (sKn_s f3)
        have c3 := tinv_s hT hf3
        obtain ⟨n, hn40, en⟩ : ∃ n, n ≤ 40 ∧ laughS (aT A) (aLw A) (aNow A) j p (Int32.ofNat (i / 10)) (Int32.ofNat (i % 10)) 0 = Int32.ofNat n := clamp_b _
        rw [en] at u3
        rw [en, i_nat (show n < 2147483648 by omega)] at es
        have hn41 : n < 41 := by omega
        have hsn : b + 562 ≤ dwN M1 := shN c1.1.1
        have k1 : ∀ v, dwI M3 (b + 559) v = dwI M1 (b + 559) v := fun v => (f3.i (by have := f2.n; omega) (fun q => by unfold sKn at q; omega)).trans (f2.i (by omega) (fun q => by unfold sKn at q; omega))
        simp only [↓gp0_2, ↓gp0_3, ↓gp0_4, ↓gp0_5, ↓gp0_6, ↓gp0_7, ↓gp0_8, ↓gp0_9, ↓gp0_10, ↓gp0_18, ↓gp0_19, ↓gp0_20, ↓gp0_22, ↓gp23_43, ↓gp23_32, ↓gp23_33, ↓gp23_34, ↓gp23_35, ↓gp23_36, ↓gp29_43, ↓gp29_32, ↓gp29_33, ↓gp29_34, ↓gp29_35, ↓gp29_36, ↓gp54_53, ↓gp54_54, ↓gp54_55, ↓gp54_56, ↓gp54_57, ↓gp54_58, ↓gp54_59, ↓gp54_60, ↓gp54_61, ↓gp54_62, ↓gp54_65, ↓gp54_66, ↓gp54_67, ↓gp54_68, ↓gp54_69, ↓gp54_70, ↓gp54_71, ↓gp54_73, ↓gp54_74, ↓gp54_75, ↓gp54_76, ↓gp54_84, ↓gp54_85, ↓gp54_87, ↓gp54_88, ↓xr59, kr59, ↓xr67, kr67, ↓xr75, kr75, ↓xr82, kr82, ↓xr89, kr89, ↓xr102, kr102, ↓xr115, kr115, ↓xr276, kr276, ↓xr437, kr437, ↓xr444, kr444, ↓xr453, kr453, ↓xr536, kr536, ↓xr553, kr553, hs0, hw0, hs1, hw1, hs2, hw2, hs3, hw3, hs4, hw4, hs5, hw5, hs6, hw6, hs7, hw7, hs8, hw8, hs9, hw9, hs10, hw10, hs11, hw11, hs12, hw12, hs13, hw13, hs14, hw14, hs15, hw15, hs16, hw16, hs17, hw17, hs18, hw18, hs19, hw19, hs20, hw20, hs21, hw21, hs22, hw22, hs23, hw23, hs25, hw25, hs26, hw26, hs27, hw27, hs28, hw28, hs9b, hw9b, hs10b, hw10b, kd0, kd20, kd21, kd22, kd23, kd24, kd25, kd26, kd27, kd28, kd29, kd30, kd31, kd32, kd33, kd34, kd35, kd36, kd37, kd38, kd39, kd40, kd41, kd42, kd54, kd55, kd56, kd57, kd58, kd59, kd67, kd75, kd82, kd89, kd102, kd115, kd276, kd437, kd444, kd451, kd452, kd453, kd534, kd535, kd536, kd553, kd557, kd558, kd559, kd560, kd561, ↓xgI_u, ↓xpI_u, ↓xaI_u, ↓xsI_u, ↓xrk_u, ↓xrk0_u, ↓xob_v, ↓xmb_v, ↓xth_v, ↓xth_x, ↓jn_u, ↓xlen_u, ↓xaL_u, ↓xsL_u, ↓xbl_0, ↓xbl_1, eq_self, inb_n, inb_d, Sh_PI, Sh_PL, dk_PI, dk_PL, dr_PI, dr_PL, ↓reduceIte, Int32.reduceLE, Int32.reduceLT, Int32.reduceToNatClampNeg, Nat.reduceLT, Nat.reduceLeDiff, Nat.reduceEqDiff, Nat.reduceAdd, Nat.reduceMul, c2.1.1, c3.1.1, xdiv_u e100, xrem_u e100, x_d10 (show i < 2147483648 by omega), x_r10 (show i < 2147483648 by omega), u3, hn41, i_nat (show n < 2147483648 by omega), t_more, di_eq, k1]
        refine hn (_, dwPI M3 (b + 559) n (dwI M1 (b + 559) n + 1)) ⟨?_, fun v hv => ?_, hf3.pI _ (Or.inl (by unfold tSc; omega))⟩
        · rw [es]
          show moreS x (dwI M1 (b + 559) n + 1) = _
          rw [e1', show dwI M1 (b + 559) n = _ from e2 n hn41]
        · rw [es]
          show dwI (dwPI M3 (b + 559) n _) (b + 559) v = rset _ n _ v
          by_cases q : v = n
          · subst q; rw [di_eq, rset_eq, show dwI M1 (b + 559) v = _ from e2 v hv]
          · rw [di_ne (by omega), rset_ne q, k1, show dwI M1 (b + 559) v = _ from e2 v hv]
      · have hg' : ¬ fitB A p (Int32.ofNat (i / 10)) (Int32.ofNat (i % 10)) = true := hg
        rw [if_neg hg', if_pos rfl]
        rw [if_neg hg] at es
        have hsn : b + 562 ≤ dwN M1 := shN c1.1.1
        exact hn (x, M2) ⟨by rw [es]; exact e1', fun v hv => by
          rw [es]
          exact (f2.i (by show b + 559 < dwN M1; omega) (fun q => by unfold sKn at q; omega)).trans (e2 v hv), hf2⟩
  · intro f i M1 hi ⟨e, hf⟩ hn
    have c1 := tinv_s hT hf
    have h40 : ((40 : Int32) < Int32.ofNat i) = False := by
      rw [show (40 : Int32) = Int32.ofNat 40 from rfl, i_lt (by omega) (by omega)]; exact eq_false (by omega)
    show ∃ M2, L_X10_worstAt_5 (b + 54) (Int32.ofNat p) (Int32.ofNat j) 0 _ (f + 1) (Int32.ofNat i) M1 = _ ∧ _
    rw [L_X10_worstAt_5, if_neg (by rw [h40]; exact id)]
    simp only [↓gp0_2, ↓gp0_3, ↓gp0_4, ↓gp0_5, ↓gp0_6, ↓gp0_7, ↓gp0_8, ↓gp0_9, ↓gp0_10, ↓gp0_18, ↓gp0_19, ↓gp0_20, ↓gp0_22, ↓gp23_43, ↓gp23_32, ↓gp23_33, ↓gp23_34, ↓gp23_35, ↓gp23_36, ↓gp29_43, ↓gp29_32, ↓gp29_33, ↓gp29_34, ↓gp29_35, ↓gp29_36, ↓gp54_53, ↓gp54_54, ↓gp54_55, ↓gp54_56, ↓gp54_57, ↓gp54_58, ↓gp54_59, ↓gp54_60, ↓gp54_61, ↓gp54_62, ↓gp54_65, ↓gp54_66, ↓gp54_67, ↓gp54_68, ↓gp54_69, ↓gp54_70, ↓gp54_71, ↓gp54_73, ↓gp54_74, ↓gp54_75, ↓gp54_76, ↓gp54_84, ↓gp54_85, ↓gp54_87, ↓gp54_88, ↓xr59, kr59, ↓xr67, kr67, ↓xr75, kr75, ↓xr82, kr82, ↓xr89, kr89, ↓xr102, kr102, ↓xr115, kr115, ↓xr276, kr276, ↓xr437, kr437, ↓xr444, kr444, ↓xr453, kr453, ↓xr536, kr536, ↓xr553, kr553, hs0, hw0, hs1, hw1, hs2, hw2, hs3, hw3, hs4, hw4, hs5, hw5, hs6, hw6, hs7, hw7, hs8, hw8, hs9, hw9, hs10, hw10, hs11, hw11, hs12, hw12, hs13, hw13, hs14, hw14, hs15, hw15, hs16, hw16, hs17, hw17, hs18, hw18, hs19, hw19, hs20, hw20, hs21, hw21, hs22, hw22, hs23, hw23, hs25, hw25, hs26, hw26, hs27, hw27, hs28, hw28, hs9b, hw9b, hs10b, hw10b, kd0, kd20, kd21, kd22, kd23, kd24, kd25, kd26, kd27, kd28, kd29, kd30, kd31, kd32, kd33, kd34, kd35, kd36, kd37, kd38, kd39, kd40, kd41, kd42, kd54, kd55, kd56, kd57, kd58, kd59, kd67, kd75, kd82, kd89, kd102, kd115, kd276, kd437, kd444, kd451, kd452, kd453, kd534, kd535, kd536, kd553, kd557, kd558, kd559, kd560, kd561, ↓xgI_u, ↓xpI_u, ↓xaI_u, ↓xsI_u, ↓xrk_u, ↓xrk0_u, ↓xob_v, ↓xmb_v, ↓xth_v, ↓xth_x, ↓jn_u, ↓xlen_u, ↓xaL_u, ↓xsL_u, ↓xbl_0, ↓xbl_1, eq_self, inb_n, inb_d, Sh_PI, Sh_PL, dk_PI, dk_PL, dr_PI, dr_PL, ↓reduceIte, Int32.reduceLE, Int32.reduceLT, Int32.reduceToNatClampNeg, Nat.reduceLT, Nat.reduceLeDiff, Nat.reduceEqDiff, Nat.reduceAdd, Nat.reduceMul, c1.1.1, hi, i_nat (show i < 2147483648 by omega), i_succ]
    refine hn (dwPI M1 (b + 559) i 0) ⟨fun v hv => ?_, hf.pI _ (Or.inl (by unfold tSc; omega))⟩
    by_cases q : v = i
    · subst q; exact di_eq
    · rw [di_ne (by omega)]; exact e v (by omega)
theorem C_worstAt {p j : Nat} (hC : CInv b w M A) (hp : p < tP (aT A)) (hj : j < tJ (aT A)) : ∃ M1, m_X1_worstAt M b (Int32.ofNat j) (Int32.ofNat p) = some ((wrsS A p j 100).2, M1) ∧ fr (cSc b) nz 0 0 M M1 := by
  simp -implicitDefEqProofs only [m_X1_worstAt, jn_u]
  refine lpx (E := fun x => ∃ M2, x = some ((wrsS A p j 100).2, M2) ∧ fr (cSc b) nz 0 0 M M2) (fun f i (M1 : dwSt) => L_X1_worstAt_2 b (Int32.ofNat j) (Int32.ofNat p) (fun (M1 : dwSt) => L_X1_worstAt_26 b (Int32.ofNat j) (Int32.ofNat p) (fun (y2 : Int32) (M3 : dwSt) => some (y2, M3)) 1000000 0 0 M1) f (Int32.ofNat i) M1) 41 (fun i M1 => (∀ v, v < i → dwI M1 (b + 42) v = 0) ∧ fr (cSc b) nz 0 0 M M1) ?_ ?_ 1000000 0 M (by omega) (by omega) ⟨fun v h => by omega, fr.refl M⟩
  · intro f M1 ⟨e, hf⟩
    show ∃ M2, L_X1_worstAt_2 b (Int32.ofNat j) (Int32.ofNat p) _ (f + 1) (Int32.ofNat 41) M1 = _ ∧ _
    rw [L_X1_worstAt_2, if_pos (by decide)]
    refine lpx (E := fun x => ∃ M2, x = some ((wrsS A p j 100).2, M2) ∧ fr (cSc b) nz 0 0 M M2) (fun f i (s : Int32 × dwSt) => L_X1_worstAt_26 b (Int32.ofNat j) (Int32.ofNat p) (fun (y2 : Int32) (M3 : dwSt) => some (y2, M3)) f s.1 (Int32.ofNat i) s.2) 10 (fun i s => s.1 = (wrsS A p j (10 * i)).2 ∧ (∀ v, v < 41 → dwI s.2 (b + 42) v = (wrsS A p j (10 * i)).1 v) ∧ fr (cSc b) nz 0 0 M s.2) ?_ ?_ 1000000 0 (0, M1) (by omega) (by omega) ⟨rfl, e, hf⟩
    · intro f ⟨x, M1⟩ ⟨e1, e2, hf⟩
      refine ⟨M1, ?_, hf⟩
      show L_X1_worstAt_26 b (Int32.ofNat j) (Int32.ofNat p) _ (f + 1) x (Int32.ofNat 10) M1 = _
      rw [L_X1_worstAt_26, if_pos (by decide), show x = _ from e1]
    · intro f i ⟨x, M1⟩ hi ⟨e1, e2, hf⟩ hn
      have h10 := i_geF hi (by omega)
      show ∃ M3, L_X1_worstAt_26 b (Int32.ofNat j) (Int32.ofNat p) _ (f + 1) x (Int32.ofNat i) M1 = _ ∧ _
      rw [L_X1_worstAt_26, if_neg (show ¬ (10 : Int32) ≤ Int32.ofNat i from fun q => (h10 ▸ q : False)), jn_u, i_succ]
      refine lpx (E := fun x => ∃ M2, x = some ((wrsS A p j 100).2, M2) ∧ fr (cSc b) nz 0 0 M M2) (fun f' g (s : Int32 × dwSt) => L_X1_worstAt_36 b (Int32.ofNat j) (Int32.ofNat p) (Int32.ofNat i) (fun (y4 : Int32) (M5 : dwSt) => L_X1_worstAt_26 b (Int32.ofNat j) (Int32.ofNat p) (fun (y2 : Int32) (M3 : dwSt) => some (y2, M3)) f y4 (Int32.ofNat (i + 1)) M5) f' s.1 (Int32.ofNat g) s.2) 10 (fun g s => s.1 = (wrsS A p j (10 * i + g)).2 ∧ (∀ v, v < 41 → dwI s.2 (b + 42) v = (wrsS A p j (10 * i + g)).1 v) ∧ fr (cSc b) nz 0 0 M s.2) ?_ ?_ 1000000 0 (x, M1) (by omega) (by omega) ⟨e1, e2, hf⟩
      · intro f' ⟨x, M1⟩ ⟨e1, e2, hf⟩
        show ∃ M3, L_X1_worstAt_36 b (Int32.ofNat j) (Int32.ofNat p) (Int32.ofNat i) _ (f' + 1) x (Int32.ofNat 10) M1 = _ ∧ _
        rw [L_X1_worstAt_36, if_pos (by decide)]
        exact hn (x, M1) ⟨e1, e2, hf⟩
      · intro f' g ⟨x, M1⟩ hg10 ⟨e1, e2, hf⟩ hn2
        have hf : fr (cSc b) nz 0 0 M M1 := hf
        have c1 := cinv_s hC hf
        have e1' : x = _ := e1
        obtain ⟨M2, u, f2⟩ := C_isFit (t := Int32.ofNat i) (g := Int32.ofNat g) c1 hp
        have hf2 := hf.t0 (sFa_c f2)
        have c2 := cinv_s hC hf2
        have h9 : ((9 : Int32) < Int32.ofNat g) = False := by
          rw [show (9 : Int32) = Int32.ofNat 9 from rfl, i_lt (by omega) (by omega)]; exact eq_false (by omega)
        have eg : fitG A p (10 * i + g) = fitB A p (Int32.ofNat i) (Int32.ofNat g) := by
          unfold fitG; rw [show (10 * i + g) / 10 = i by omega, show (10 * i + g) % 10 = g by omega]
        have es := wrsS_e A p j (10 * i + g)
        rw [show (10 * i + g) / 10 = i by omega, show (10 * i + g) % 10 = g by omega] at es
        show ∃ M3, L_X1_worstAt_36 b (Int32.ofNat j) (Int32.ofNat p) (Int32.ofNat i) _ (f' + 1) x (Int32.ofNat g) M1 = _ ∧ _
        rw [L_X1_worstAt_36, if_neg (by rw [h9]; exact id)]
        simp only [↓gp0_2, ↓gp0_3, ↓gp0_4, ↓gp0_5, ↓gp0_6, ↓gp0_7, ↓gp0_8, ↓gp0_9, ↓gp0_10, ↓gp0_18, ↓gp0_19, ↓gp0_20, ↓gp0_22, ↓gp23_43, ↓gp23_32, ↓gp23_33, ↓gp23_34, ↓gp23_35, ↓gp23_36, ↓gp29_43, ↓gp29_32, ↓gp29_33, ↓gp29_34, ↓gp29_35, ↓gp29_36, ↓gp54_53, ↓gp54_54, ↓gp54_55, ↓gp54_56, ↓gp54_57, ↓gp54_58, ↓gp54_59, ↓gp54_60, ↓gp54_61, ↓gp54_62, ↓gp54_65, ↓gp54_66, ↓gp54_67, ↓gp54_68, ↓gp54_69, ↓gp54_70, ↓gp54_71, ↓gp54_73, ↓gp54_74, ↓gp54_75, ↓gp54_76, ↓gp54_84, ↓gp54_85, ↓gp54_87, ↓gp54_88, ↓xr59, kr59, ↓xr67, kr67, ↓xr75, kr75, ↓xr82, kr82, ↓xr89, kr89, ↓xr102, kr102, ↓xr115, kr115, ↓xr276, kr276, ↓xr437, kr437, ↓xr444, kr444, ↓xr453, kr453, ↓xr536, kr536, ↓xr553, kr553, hs0, hw0, hs1, hw1, hs2, hw2, hs3, hw3, hs4, hw4, hs5, hw5, hs6, hw6, hs7, hw7, hs8, hw8, hs9, hw9, hs10, hw10, hs11, hw11, hs12, hw12, hs13, hw13, hs14, hw14, hs15, hw15, hs16, hw16, hs17, hw17, hs18, hw18, hs19, hw19, hs20, hw20, hs21, hw21, hs22, hw22, hs23, hw23, hs25, hw25, hs26, hw26, hs27, hw27, hs28, hw28, hs9b, hw9b, hs10b, hw10b, kd0, kd20, kd21, kd22, kd23, kd24, kd25, kd26, kd27, kd28, kd29, kd30, kd31, kd32, kd33, kd34, kd35, kd36, kd37, kd38, kd39, kd40, kd41, kd42, kd54, kd55, kd56, kd57, kd58, kd59, kd67, kd75, kd82, kd89, kd102, kd115, kd276, kd437, kd444, kd451, kd452, kd453, kd534, kd535, kd536, kd553, kd557, kd558, kd559, kd560, kd561, ↓xgI_u, ↓xpI_u, ↓xaI_u, ↓xsI_u, ↓xrk_u, ↓xrk0_u, ↓xob_v, ↓xmb_v, ↓xth_v, ↓xth_x, ↓jn_u, ↓xlen_u, ↓xaL_u, ↓xsL_u, ↓xbl_0, ↓xbl_1, eq_self, inb_n, inb_d, Sh_PI, Sh_PL, dk_PI, dk_PL, dr_PI, dr_PL, ↓reduceIte, Int32.reduceLE, Int32.reduceLT, Int32.reduceToNatClampNeg, Nat.reduceLT, Nat.reduceLeDiff, Nat.reduceEqDiff, Nat.reduceAdd, Nat.reduceMul, c1.1.1, u, i_succ]
        have hsn : b + 562 ≤ dwN M1 := shN c1.1.1
        by_cases hg : fitB A p (Int32.ofNat i) (Int32.ofNat g) = true
        · rw [if_pos hg, if_neg (by decide)]
          rw [eg, if_pos hg] at es
          obtain ⟨M3, u3, f3⟩ := c_laughBy (t := Int32.ofNat i) (g := Int32.ofNat g) (m := 0) c2.e c2.1.2.2.2.2.1 hj hp
          have hf3 := hf2.t0 (sFa_c f3)
          have c3 := cinv_s hC hf3
          obtain ⟨n, hn40, en⟩ : ∃ n, n ≤ 40 ∧ laughS (aT A) (aLw A) (aNow A) j p (Int32.ofNat i) (Int32.ofNat g) 0 = Int32.ofNat n := clamp_b _
          rw [en] at u3
          rw [en, i_nat (show n < 2147483648 by omega)] at es
          have hn41 : n < 41 := by omega
          have k1 : ∀ v, dwI M3 (b + 42) v = dwI M1 (b + 42) v := fun v => (f3.i (by have := f2.n; omega) (fun q => by unfold sFa at q; omega)).trans (f2.i (by omega) (fun q => by unfold sFa at q; omega))
          simp only [↓gp0_2, ↓gp0_3, ↓gp0_4, ↓gp0_5, ↓gp0_6, ↓gp0_7, ↓gp0_8, ↓gp0_9, ↓gp0_10, ↓gp0_18, ↓gp0_19, ↓gp0_20, ↓gp0_22, ↓gp23_43, ↓gp23_32, ↓gp23_33, ↓gp23_34, ↓gp23_35, ↓gp23_36, ↓gp29_43, ↓gp29_32, ↓gp29_33, ↓gp29_34, ↓gp29_35, ↓gp29_36, ↓gp54_53, ↓gp54_54, ↓gp54_55, ↓gp54_56, ↓gp54_57, ↓gp54_58, ↓gp54_59, ↓gp54_60, ↓gp54_61, ↓gp54_62, ↓gp54_65, ↓gp54_66, ↓gp54_67, ↓gp54_68, ↓gp54_69, ↓gp54_70, ↓gp54_71, ↓gp54_73, ↓gp54_74, ↓gp54_75, ↓gp54_76, ↓gp54_84, ↓gp54_85, ↓gp54_87, ↓gp54_88, ↓xr59, kr59, ↓xr67, kr67, ↓xr75, kr75, ↓xr82, kr82, ↓xr89, kr89, ↓xr102, kr102, ↓xr115, kr115, ↓xr276, kr276, ↓xr437, kr437, ↓xr444, kr444, ↓xr453, kr453, ↓xr536, kr536, ↓xr553, kr553, hs0, hw0, hs1, hw1, hs2, hw2, hs3, hw3, hs4, hw4, hs5, hw5, hs6, hw6, hs7, hw7, hs8, hw8, hs9, hw9, hs10, hw10, hs11, hw11, hs12, hw12, hs13, hw13, hs14, hw14, hs15, hw15, hs16, hw16, hs17, hw17, hs18, hw18, hs19, hw19, hs20, hw20, hs21, hw21, hs22, hw22, hs23, hw23, hs25, hw25, hs26, hw26, hs27, hw27, hs28, hw28, hs9b, hw9b, hs10b, hw10b, kd0, kd20, kd21, kd22, kd23, kd24, kd25, kd26, kd27, kd28, kd29, kd30, kd31, kd32, kd33, kd34, kd35, kd36, kd37, kd38, kd39, kd40, kd41, kd42, kd54, kd55, kd56, kd57, kd58, kd59, kd67, kd75, kd82, kd89, kd102, kd115, kd276, kd437, kd444, kd451, kd452, kd453, kd534, kd535, kd536, kd553, kd557, kd558, kd559, kd560, kd561, ↓xgI_u, ↓xpI_u, ↓xaI_u, ↓xsI_u, ↓xrk_u, ↓xrk0_u, ↓xob_v, ↓xmb_v, ↓xth_v, ↓xth_x, ↓jn_u, ↓xlen_u, ↓xaL_u, ↓xsL_u, ↓xbl_0, ↓xbl_1, eq_self, inb_n, inb_d, Sh_PI, Sh_PL, dk_PI, dk_PL, dr_PI, dr_PL, ↓reduceIte, Int32.reduceLE, Int32.reduceLT, Int32.reduceToNatClampNeg, Nat.reduceLT, Nat.reduceLeDiff, Nat.reduceEqDiff, Nat.reduceAdd, Nat.reduceMul, c2.1.1, c3.1.1, u3, hn41, i_nat (show n < 2147483648 by omega), di_eq, k1, max_more2]
          refine hn2 (_, dwPI M3 (b + 42) n (dwI M1 (b + 42) n + 1)) ⟨?_, fun v hv => ?_, hf3.pI _ (Or.inl (by unfold cSc; omega))⟩
          · rw [← Nat.add_assoc, es]
            show moreS x (dwI M1 (b + 42) n + 1) = _
            rw [e1', show dwI M1 (b + 42) n = _ from e2 n hn41]
          · rw [← Nat.add_assoc, es]
            show dwI (dwPI M3 (b + 42) n _) (b + 42) v = rset _ n _ v
            by_cases q : v = n
            · subst q; rw [di_eq, rset_eq, show dwI M1 (b + 42) v = _ from e2 v hv]
            · rw [di_ne (by omega), rset_ne q, k1, show dwI M1 (b + 42) v = _ from e2 v hv]
        · rw [if_neg hg, if_pos rfl]
          rw [eg, if_neg hg] at es
          exact hn2 (x, M2) ⟨by rw [← Nat.add_assoc, es]; exact e1', fun v hv => by
            rw [← Nat.add_assoc, es]
            exact (f2.i (by show b + 42 < dwN M1; omega) (fun q => by unfold sFa at q; omega)).trans (e2 v hv), hf2⟩
  · intro f i M1 hi ⟨e, hf⟩ hn
    have c1 := cinv_s hC hf
    have h40 : ((40 : Int32) < Int32.ofNat i) = False := by
      rw [show (40 : Int32) = Int32.ofNat 40 from rfl, i_lt (by omega) (by omega)]; exact eq_false (by omega)
    show ∃ M2, L_X1_worstAt_2 b (Int32.ofNat j) (Int32.ofNat p) _ (f + 1) (Int32.ofNat i) M1 = _ ∧ _
    rw [L_X1_worstAt_2, if_neg (by rw [h40]; exact id)]
    simp only [↓gp0_2, ↓gp0_3, ↓gp0_4, ↓gp0_5, ↓gp0_6, ↓gp0_7, ↓gp0_8, ↓gp0_9, ↓gp0_10, ↓gp0_18, ↓gp0_19, ↓gp0_20, ↓gp0_22, ↓gp23_43, ↓gp23_32, ↓gp23_33, ↓gp23_34, ↓gp23_35, ↓gp23_36, ↓gp29_43, ↓gp29_32, ↓gp29_33, ↓gp29_34, ↓gp29_35, ↓gp29_36, ↓gp54_53, ↓gp54_54, ↓gp54_55, ↓gp54_56, ↓gp54_57, ↓gp54_58, ↓gp54_59, ↓gp54_60, ↓gp54_61, ↓gp54_62, ↓gp54_65, ↓gp54_66, ↓gp54_67, ↓gp54_68, ↓gp54_69, ↓gp54_70, ↓gp54_71, ↓gp54_73, ↓gp54_74, ↓gp54_75, ↓gp54_76, ↓gp54_84, ↓gp54_85, ↓gp54_87, ↓gp54_88, ↓xr59, kr59, ↓xr67, kr67, ↓xr75, kr75, ↓xr82, kr82, ↓xr89, kr89, ↓xr102, kr102, ↓xr115, kr115, ↓xr276, kr276, ↓xr437, kr437, ↓xr444, kr444, ↓xr453, kr453, ↓xr536, kr536, ↓xr553, kr553, hs0, hw0, hs1, hw1, hs2, hw2, hs3, hw3, hs4, hw4, hs5, hw5, hs6, hw6, hs7, hw7, hs8, hw8, hs9, hw9, hs10, hw10, hs11, hw11, hs12, hw12, hs13, hw13, hs14, hw14, hs15, hw15, hs16, hw16, hs17, hw17, hs18, hw18, hs19, hw19, hs20, hw20, hs21, hw21, hs22, hw22, hs23, hw23, hs25, hw25, hs26, hw26, hs27, hw27, hs28, hw28, hs9b, hw9b, hs10b, hw10b, kd0, kd20, kd21, kd22, kd23, kd24, kd25, kd26, kd27, kd28, kd29, kd30, kd31, kd32, kd33, kd34, kd35, kd36, kd37, kd38, kd39, kd40, kd41, kd42, kd54, kd55, kd56, kd57, kd58, kd59, kd67, kd75, kd82, kd89, kd102, kd115, kd276, kd437, kd444, kd451, kd452, kd453, kd534, kd535, kd536, kd553, kd557, kd558, kd559, kd560, kd561, ↓xgI_u, ↓xpI_u, ↓xaI_u, ↓xsI_u, ↓xrk_u, ↓xrk0_u, ↓xob_v, ↓xmb_v, ↓xth_v, ↓xth_x, ↓jn_u, ↓xlen_u, ↓xaL_u, ↓xsL_u, ↓xbl_0, ↓xbl_1, eq_self, inb_n, inb_d, Sh_PI, Sh_PL, dk_PI, dk_PL, dr_PI, dr_PL, ↓reduceIte, Int32.reduceLE, Int32.reduceLT, Int32.reduceToNatClampNeg, Nat.reduceLT, Nat.reduceLeDiff, Nat.reduceEqDiff, Nat.reduceAdd, Nat.reduceMul, c1.1.1, hi, i_nat (show i < 2147483648 by omega), i_succ]
    refine hn (dwPI M1 (b + 42) i 0) ⟨fun v hv => ?_, hf.pI _ (Or.inl (by unfold cSc; omega))⟩
    by_cases q : v = i
    · subst q; exact di_eq
    · rw [di_ne (by omega)]; exact e v (by omega)
/-! look -/
def lokS (A : dvA) (p n : Nat) : Int32 × Int32 := itr (fun j s => if bookS (aBk A) j = -1 ∧ (s.1 = -1 ∨ (wrsS A p j 100).2 < s.2) then (Int32.ofNat j, (wrsS A p j 100).2) else s) (-1, -1) n
theorem lokS_e (A : dvA) (p n : Nat) : lokS A p (n + 1) = if bookS (aBk A) n = -1 ∧ ((lokS A p n).1 = -1 ∨ (wrsS A p n 100).2 < (lokS A p n).2) then (Int32.ofNat n, (wrsS A p n 100).2) else lokS A p n := rfl
def lokV (A : dvA) (p : Nat) (y : Int32) : Int32 := if y = 0 then (lokS A p (tJ (aT A))).1 else (lokS A p (tJ (aT A))).2
theorem T_isTold {j : Nat} (hT : TInv b M A) (hj : j < 2147483648) : m_X10_isTold M (b + 54) (Int32.ofNat j) = some (if bookS (aBk A) j = -1 then 0 else 1) := by
  have ob := hT.1.ok.2.1
  have o6 := ob.1
  simp -implicitDefEqProofs only [m_X10_isTold, jn_u]
  refine lpx (E := fun x => x = some (if bookS (aBk A) j = -1 then 0 else 1)) (fun f i (_ : Unit) => L_X10_isTold_2 M (b + 54) (Int32.ofNat j) (fun (_u : Unit) => some (1 : Int32)) (fun (_u : Unit) => some (0 : Int32)) f (Int32.ofNat i)) (aBk A).1 (fun i _ => ∀ k, k < i → (aBk A).2 k 0 ≠ Int32.ofNat j) ?_ ?_ 1000000 0 () (by omega) (by omega) (fun k h => by omega)
  · intro f _ e
    simp -implicitDefEqProofs only [L_X10_isTold_2, ↓gp0_2, ↓gp0_3, ↓gp0_4, ↓gp0_5, ↓gp0_6, ↓gp0_7, ↓gp0_8, ↓gp0_9, ↓gp0_10, ↓gp0_18, ↓gp0_19, ↓gp0_20, ↓gp0_22, ↓gp23_43, ↓gp23_32, ↓gp23_33, ↓gp23_34, ↓gp23_35, ↓gp23_36, ↓gp29_43, ↓gp29_32, ↓gp29_33, ↓gp29_34, ↓gp29_35, ↓gp29_36, ↓gp54_53, ↓gp54_54, ↓gp54_55, ↓gp54_56, ↓gp54_57, ↓gp54_58, ↓gp54_59, ↓gp54_60, ↓gp54_61, ↓gp54_62, ↓gp54_65, ↓gp54_66, ↓gp54_67, ↓gp54_68, ↓gp54_69, ↓gp54_70, ↓gp54_71, ↓gp54_73, ↓gp54_74, ↓gp54_75, ↓gp54_76, ↓gp54_84, ↓gp54_85, ↓gp54_87, ↓gp54_88, ↓xr59, kr59, ↓xr67, kr67, ↓xr75, kr75, ↓xr82, kr82, ↓xr89, kr89, ↓xr102, kr102, ↓xr115, kr115, ↓xr276, kr276, ↓xr437, kr437, ↓xr444, kr444, ↓xr453, kr453, ↓xr536, kr536, ↓xr553, kr553, hs0, hw0, hs1, hw1, hs2, hw2, hs3, hw3, hs4, hw4, hs5, hw5, hs6, hw6, hs7, hw7, hs8, hw8, hs9, hw9, hs10, hw10, hs11, hw11, hs12, hw12, hs13, hw13, hs14, hw14, hs15, hw15, hs16, hw16, hs17, hw17, hs18, hw18, hs19, hw19, hs20, hw20, hs21, hw21, hs22, hw22, hs23, hw23, hs25, hw25, hs26, hw26, hs27, hw27, hs28, hw28, hs9b, hw9b, hs10b, hw10b, kd0, kd20, kd21, kd22, kd23, kd24, kd25, kd26, kd27, kd28, kd29, kd30, kd31, kd32, kd33, kd34, kd35, kd36, kd37, kd38, kd39, kd40, kd41, kd42, kd54, kd55, kd56, kd57, kd58, kd59, kd67, kd75, kd82, kd89, kd102, kd115, kd276, kd437, kd444, kd451, kd452, kd453, kd534, kd535, kd536, kd553, kd557, kd558, kd559, kd560, kd561, ↓xgI_u, ↓xpI_u, ↓xaI_u, ↓xsI_u, ↓xrk_u, ↓xrk0_u, ↓xob_v, ↓xmb_v, ↓xth_v, ↓xth_x, ↓jn_u, ↓xlen_u, ↓xaL_u, ↓xsL_u, ↓xbl_0, ↓xbl_1, eq_self, inb_n, inb_d, Sh_PI, Sh_PL, dk_PI, dk_PL, dr_PI, dr_PL, ↓reduceIte, Int32.reduceLE, Int32.reduceLT, Int32.reduceToNatClampNeg, Nat.reduceLT, Nat.reduceLeDiff, Nat.reduceEqDiff, Nat.reduceAdd, Nat.reduceMul, hT.1.1, hT.1.2.2.2.1.1, i_geT, if_true]
    rw [if_pos ((book_m ob).mpr e)]
  · intro f i _ hi e hn
    have hi6 : i < 6 := by omega
    have a0 := hT.1.2.2.2.1.2 i 0 hi (by omega)
    simp -implicitDefEqProofs only [L_X10_isTold_2, ↓gp0_2, ↓gp0_3, ↓gp0_4, ↓gp0_5, ↓gp0_6, ↓gp0_7, ↓gp0_8, ↓gp0_9, ↓gp0_10, ↓gp0_18, ↓gp0_19, ↓gp0_20, ↓gp0_22, ↓gp23_43, ↓gp23_32, ↓gp23_33, ↓gp23_34, ↓gp23_35, ↓gp23_36, ↓gp29_43, ↓gp29_32, ↓gp29_33, ↓gp29_34, ↓gp29_35, ↓gp29_36, ↓gp54_53, ↓gp54_54, ↓gp54_55, ↓gp54_56, ↓gp54_57, ↓gp54_58, ↓gp54_59, ↓gp54_60, ↓gp54_61, ↓gp54_62, ↓gp54_65, ↓gp54_66, ↓gp54_67, ↓gp54_68, ↓gp54_69, ↓gp54_70, ↓gp54_71, ↓gp54_73, ↓gp54_74, ↓gp54_75, ↓gp54_76, ↓gp54_84, ↓gp54_85, ↓gp54_87, ↓gp54_88, ↓xr59, kr59, ↓xr67, kr67, ↓xr75, kr75, ↓xr82, kr82, ↓xr89, kr89, ↓xr102, kr102, ↓xr115, kr115, ↓xr276, kr276, ↓xr437, kr437, ↓xr444, kr444, ↓xr453, kr453, ↓xr536, kr536, ↓xr553, kr553, hs0, hw0, hs1, hw1, hs2, hw2, hs3, hw3, hs4, hw4, hs5, hw5, hs6, hw6, hs7, hw7, hs8, hw8, hs9, hw9, hs10, hw10, hs11, hw11, hs12, hw12, hs13, hw13, hs14, hw14, hs15, hw15, hs16, hw16, hs17, hw17, hs18, hw18, hs19, hw19, hs20, hw20, hs21, hw21, hs22, hw22, hs23, hw23, hs25, hw25, hs26, hw26, hs27, hw27, hs28, hw28, hs9b, hw9b, hs10b, hw10b, kd0, kd20, kd21, kd22, kd23, kd24, kd25, kd26, kd27, kd28, kd29, kd30, kd31, kd32, kd33, kd34, kd35, kd36, kd37, kd38, kd39, kd40, kd41, kd42, kd54, kd55, kd56, kd57, kd58, kd59, kd67, kd75, kd82, kd89, kd102, kd115, kd276, kd437, kd444, kd451, kd452, kd453, kd534, kd535, kd536, kd553, kd557, kd558, kd559, kd560, kd561, ↓xgI_u, ↓xpI_u, ↓xaI_u, ↓xsI_u, ↓xrk_u, ↓xrk0_u, ↓xob_v, ↓xmb_v, ↓xth_v, ↓xth_x, ↓jn_u, ↓xlen_u, ↓xaL_u, ↓xsL_u, ↓xbl_0, ↓xbl_1, eq_self, inb_n, inb_d, Sh_PI, Sh_PL, dk_PI, dk_PL, dr_PI, dr_PL, ↓reduceIte, Int32.reduceLE, Int32.reduceLT, Int32.reduceToNatClampNeg, Nat.reduceLT, Nat.reduceLeDiff, Nat.reduceEqDiff, Nat.reduceAdd, Nat.reduceMul, hT.1.1, hT.1.2.2.2.1.1, i_geF hi (by omega), if_false, hi6, a0, i_succ]
    by_cases hc : (aBk A).2 i 0 = Int32.ofNat j
    · rw [if_pos hc, if_neg (fun q => (book_m ob).mp q i hi hc)]
    · rw [if_neg hc]
      exact hn () fun k hk => by
        by_cases q : k = i
        · subst q; exact hc
        · exact e k (by omega)
theorem T_look {p : Nat} {y : Int32} (hT : TInv b M A) (hp : p < tP (aT A)) (hy : inV y 0 1 = 1) : ∃ M2, m_X10_look M (b + 54) (Int32.ofNat p) y = some (lokV A p y, M2) ∧ fr (tSc b) nz 0 0 (dwPI M (b + 54) 44 0) M2 := by
  obtain ⟨hT0, f0, z0⟩ := tinv_z hT
  have o1 := hT.1.ok.1.1
  have o2 := hT.1.ok.1.2.1
  simp -implicitDefEqProofs only [m_X10_look, ↓gp0_2, ↓gp0_3, ↓gp0_4, ↓gp0_5, ↓gp0_6, ↓gp0_7, ↓gp0_8, ↓gp0_9, ↓gp0_10, ↓gp0_18, ↓gp0_19, ↓gp0_20, ↓gp0_22, ↓gp23_43, ↓gp23_32, ↓gp23_33, ↓gp23_34, ↓gp23_35, ↓gp23_36, ↓gp29_43, ↓gp29_32, ↓gp29_33, ↓gp29_34, ↓gp29_35, ↓gp29_36, ↓gp54_53, ↓gp54_54, ↓gp54_55, ↓gp54_56, ↓gp54_57, ↓gp54_58, ↓gp54_59, ↓gp54_60, ↓gp54_61, ↓gp54_62, ↓gp54_65, ↓gp54_66, ↓gp54_67, ↓gp54_68, ↓gp54_69, ↓gp54_70, ↓gp54_71, ↓gp54_73, ↓gp54_74, ↓gp54_75, ↓gp54_76, ↓gp54_84, ↓gp54_85, ↓gp54_87, ↓gp54_88, ↓xr59, kr59, ↓xr67, kr67, ↓xr75, kr75, ↓xr82, kr82, ↓xr89, kr89, ↓xr102, kr102, ↓xr115, kr115, ↓xr276, kr276, ↓xr437, kr437, ↓xr444, kr444, ↓xr453, kr453, ↓xr536, kr536, ↓xr553, kr553, hs0, hw0, hs1, hw1, hs2, hw2, hs3, hw3, hs4, hw4, hs5, hw5, hs6, hw6, hs7, hw7, hs8, hw8, hs9, hw9, hs10, hw10, hs11, hw11, hs12, hw12, hs13, hw13, hs14, hw14, hs15, hw15, hs16, hw16, hs17, hw17, hs18, hw18, hs19, hw19, hs20, hw20, hs21, hw21, hs22, hw22, hs23, hw23, hs25, hw25, hs26, hw26, hs27, hw27, hs28, hw28, hs9b, hw9b, hs10b, hw10b, kd0, kd20, kd21, kd22, kd23, kd24, kd25, kd26, kd27, kd28, kd29, kd30, kd31, kd32, kd33, kd34, kd35, kd36, kd37, kd38, kd39, kd40, kd41, kd42, kd54, kd55, kd56, kd57, kd58, kd59, kd67, kd75, kd82, kd89, kd102, kd115, kd276, kd437, kd444, kd451, kd452, kd453, kd534, kd535, kd536, kd553, kd557, kd558, kd559, kd560, kd561, ↓xgI_u, ↓xpI_u, ↓xaI_u, ↓xsI_u, ↓xrk_u, ↓xrk0_u, ↓xob_v, ↓xmb_v, ↓xth_v, ↓xth_x, ↓jn_u, ↓xlen_u, ↓xaL_u, ↓xsL_u, ↓xbl_0, ↓xbl_1, eq_self, inb_n, inb_d, Sh_PI, Sh_PL, dk_PI, dk_PL, dr_PI, dr_PL, ↓reduceIte, Int32.reduceLE, Int32.reduceLT, Int32.reduceToNatClampNeg, Nat.reduceLT, Nat.reduceLeDiff, Nat.reduceEqDiff, Nat.reduceAdd, Nat.reduceMul, hT.1.1, t_isP hT0.1.1 hT0.1.2.1, t_inT hp (by omega), e10, t_bad0 hT0.1.1 z0, t_in, hy]
  refine lpx (E := fun x => ∃ M2, x = some (lokV A p y, M2) ∧ fr (tSc b) nz 0 0 (dwPI M (b + 54) 44 0) M2) (fun f i (s : (Int32 × Int32) × dwSt) => L_X10_look_60 (b + 54) (Int32.ofNat p) y (fun (y12 : Int32) (y13 : Int32) (M14 : dwSt) => if y = 0 then some (y12, M14) else some (y13, M14)) f s.1.1 s.1.2 (Int32.ofNat i) s.2) (tJ (aT A)) (fun i s => s.1 = lokS A p i ∧ fr (tSc b) nz 0 0 (dwPI M (b + 54) 44 0) s.2) ?_ ?_ 1000000 0 ((-1, -1), dwPI M (b + 54) 44 0) (by omega) (by omega) ⟨rfl, fr.refl _⟩
  · intro f ⟨x, M1⟩ ⟨e, hf⟩
    have c1 := tinv_s hT0 hf
    have e' : x = _ := e
    refine ⟨M1, ?_, hf⟩
    show L_X10_look_60 (b + 54) (Int32.ofNat p) y _ (f + 1) x.1 x.2 _ M1 = _
    simp -implicitDefEqProofs only [L_X10_look_60, ↓gp0_2, ↓gp0_3, ↓gp0_4, ↓gp0_5, ↓gp0_6, ↓gp0_7, ↓gp0_8, ↓gp0_9, ↓gp0_10, ↓gp0_18, ↓gp0_19, ↓gp0_20, ↓gp0_22, ↓gp23_43, ↓gp23_32, ↓gp23_33, ↓gp23_34, ↓gp23_35, ↓gp23_36, ↓gp29_43, ↓gp29_32, ↓gp29_33, ↓gp29_34, ↓gp29_35, ↓gp29_36, ↓gp54_53, ↓gp54_54, ↓gp54_55, ↓gp54_56, ↓gp54_57, ↓gp54_58, ↓gp54_59, ↓gp54_60, ↓gp54_61, ↓gp54_62, ↓gp54_65, ↓gp54_66, ↓gp54_67, ↓gp54_68, ↓gp54_69, ↓gp54_70, ↓gp54_71, ↓gp54_73, ↓gp54_74, ↓gp54_75, ↓gp54_76, ↓gp54_84, ↓gp54_85, ↓gp54_87, ↓gp54_88, ↓xr59, kr59, ↓xr67, kr67, ↓xr75, kr75, ↓xr82, kr82, ↓xr89, kr89, ↓xr102, kr102, ↓xr115, kr115, ↓xr276, kr276, ↓xr437, kr437, ↓xr444, kr444, ↓xr453, kr453, ↓xr536, kr536, ↓xr553, kr553, hs0, hw0, hs1, hw1, hs2, hw2, hs3, hw3, hs4, hw4, hs5, hw5, hs6, hw6, hs7, hw7, hs8, hw8, hs9, hw9, hs10, hw10, hs11, hw11, hs12, hw12, hs13, hw13, hs14, hw14, hs15, hw15, hs16, hw16, hs17, hw17, hs18, hw18, hs19, hw19, hs20, hw20, hs21, hw21, hs22, hw22, hs23, hw23, hs25, hw25, hs26, hw26, hs27, hw27, hs28, hw28, hs9b, hw9b, hs10b, hw10b, kd0, kd20, kd21, kd22, kd23, kd24, kd25, kd26, kd27, kd28, kd29, kd30, kd31, kd32, kd33, kd34, kd35, kd36, kd37, kd38, kd39, kd40, kd41, kd42, kd54, kd55, kd56, kd57, kd58, kd59, kd67, kd75, kd82, kd89, kd102, kd115, kd276, kd437, kd444, kd451, kd452, kd453, kd534, kd535, kd536, kd553, kd557, kd558, kd559, kd560, kd561, ↓xgI_u, ↓xpI_u, ↓xaI_u, ↓xsI_u, ↓xrk_u, ↓xrk0_u, ↓xob_v, ↓xmb_v, ↓xth_v, ↓xth_x, ↓jn_u, ↓xlen_u, ↓xaL_u, ↓xsL_u, ↓xbl_0, ↓xbl_1, eq_self, inb_n, inb_d, Sh_PI, Sh_PL, dk_PI, dk_PL, dr_PI, dr_PL, ↓reduceIte, Int32.reduceLE, Int32.reduceLT, Int32.reduceToNatClampNeg, Nat.reduceLT, Nat.reduceLeDiff, Nat.reduceEqDiff, Nat.reduceAdd, Nat.reduceMul, c1.1.1, c1.1.2.1.2.1, i_geT, if_true]
    unfold lokV
    rw [e']
    by_cases h : y = 0
    · rw [if_pos h, if_pos h]
    · rw [if_neg h, if_neg h]
  · intro f i ⟨x, M1⟩ hi ⟨e, hf⟩ hn
    have c1 := tinv_s hT0 hf
    have e' : x = _ := e
    obtain ⟨M2, u, f2⟩ := T_worstAt c1 hp hi
    have hf2 := hf.t0 f2
    have es := lokS_e A p i
    rw [← e'] at es
    show ∃ M3, L_X10_look_60 (b + 54) (Int32.ofNat p) y _ (f + 1) x.1 x.2 _ M1 = _ ∧ _
    simp -implicitDefEqProofs only [L_X10_look_60, ↓gp0_2, ↓gp0_3, ↓gp0_4, ↓gp0_5, ↓gp0_6, ↓gp0_7, ↓gp0_8, ↓gp0_9, ↓gp0_10, ↓gp0_18, ↓gp0_19, ↓gp0_20, ↓gp0_22, ↓gp23_43, ↓gp23_32, ↓gp23_33, ↓gp23_34, ↓gp23_35, ↓gp23_36, ↓gp29_43, ↓gp29_32, ↓gp29_33, ↓gp29_34, ↓gp29_35, ↓gp29_36, ↓gp54_53, ↓gp54_54, ↓gp54_55, ↓gp54_56, ↓gp54_57, ↓gp54_58, ↓gp54_59, ↓gp54_60, ↓gp54_61, ↓gp54_62, ↓gp54_65, ↓gp54_66, ↓gp54_67, ↓gp54_68, ↓gp54_69, ↓gp54_70, ↓gp54_71, ↓gp54_73, ↓gp54_74, ↓gp54_75, ↓gp54_76, ↓gp54_84, ↓gp54_85, ↓gp54_87, ↓gp54_88, ↓xr59, kr59, ↓xr67, kr67, ↓xr75, kr75, ↓xr82, kr82, ↓xr89, kr89, ↓xr102, kr102, ↓xr115, kr115, ↓xr276, kr276, ↓xr437, kr437, ↓xr444, kr444, ↓xr453, kr453, ↓xr536, kr536, ↓xr553, kr553, hs0, hw0, hs1, hw1, hs2, hw2, hs3, hw3, hs4, hw4, hs5, hw5, hs6, hw6, hs7, hw7, hs8, hw8, hs9, hw9, hs10, hw10, hs11, hw11, hs12, hw12, hs13, hw13, hs14, hw14, hs15, hw15, hs16, hw16, hs17, hw17, hs18, hw18, hs19, hw19, hs20, hw20, hs21, hw21, hs22, hw22, hs23, hw23, hs25, hw25, hs26, hw26, hs27, hw27, hs28, hw28, hs9b, hw9b, hs10b, hw10b, kd0, kd20, kd21, kd22, kd23, kd24, kd25, kd26, kd27, kd28, kd29, kd30, kd31, kd32, kd33, kd34, kd35, kd36, kd37, kd38, kd39, kd40, kd41, kd42, kd54, kd55, kd56, kd57, kd58, kd59, kd67, kd75, kd82, kd89, kd102, kd115, kd276, kd437, kd444, kd451, kd452, kd453, kd534, kd535, kd536, kd553, kd557, kd558, kd559, kd560, kd561, ↓xgI_u, ↓xpI_u, ↓xaI_u, ↓xsI_u, ↓xrk_u, ↓xrk0_u, ↓xob_v, ↓xmb_v, ↓xth_v, ↓xth_x, ↓jn_u, ↓xlen_u, ↓xaL_u, ↓xsL_u, ↓xbl_0, ↓xbl_1, eq_self, inb_n, inb_d, Sh_PI, Sh_PL, dk_PI, dk_PL, dr_PI, dr_PL, ↓reduceIte, Int32.reduceLE, Int32.reduceLT, Int32.reduceToNatClampNeg, Nat.reduceLT, Nat.reduceLeDiff, Nat.reduceEqDiff, Nat.reduceAdd, Nat.reduceMul, c1.1.1, c1.1.2.1.2.1, i_geF hi (by omega), if_false, T_isTold c1 (show i < 2147483648 by omega), u, i_succ]
    by_cases hb : bookS (aBk A) i = -1
    · simp only [hb, if_true]
      by_cases hx : x.1 = -1
      · rw [if_pos hx]
        rw [if_pos ⟨hb, Or.inl hx⟩] at es
        exact hn (_, M2) ⟨es.symm, hf2⟩
      · rw [if_neg hx]
        by_cases hl : (wrsS A p i 100).2 < x.2
        · rw [if_pos hl]
          rw [if_pos ⟨hb, Or.inr hl⟩] at es
          exact hn (_, M2) ⟨es.symm, hf2⟩
        · rw [if_neg hl]
          rw [if_neg (fun q => q.2.elim hx hl)] at es
          exact hn (_, M2) ⟨es.symm, hf2⟩
    · simp only [hb, if_false, e10]
      rw [if_neg (fun q => hb q.1)] at es
      exact hn (_, M1) ⟨es.symm, hf⟩
theorem C_look {p : Nat} {y : Int32} (hC : CInv b w M A) (hp : p < tP (aT A)) (hy : inV y 0 1 = 1) : ∃ M1, m_X1_look M b (Int32.ofNat p) y = some (.inl (lokV A p y), M1) ∧ fr (cSc b) nz 0 0 M M1 := by
  have o2 := hC.1.ok.1.2.1
  simp -implicitDefEqProofs only [m_X1_look, ↓xgI_u, ↓xpI_u, ↓xaI_u, ↓xsI_u, ↓xrk_u, ↓xrk0_u, ↓xob_v, ↓xmb_v, ↓xth_v, ↓xth_x, ↓jn_u, ↓xlen_u, ↓xaL_u, ↓xsL_u, ↓xbl_0, ↓xbl_1, eq_self, inb_n, inb_d, Sh_PI, Sh_PL, dk_PI, dk_PL, dr_PI, dr_PL, ↓reduceIte, Int32.reduceLE, Int32.reduceLT, Int32.reduceToNatClampNeg, Nat.reduceLT, Nat.reduceLeDiff, Nat.reduceEqDiff, Nat.reduceAdd, Nat.reduceMul, kd0 hC.1.1, c_needPT hC hp, c_part, c_need1 hy]
  refine lpx (E := fun x => ∃ M1, x = some (.inl (lokV A p y), M1) ∧ fr (cSc b) nz 0 0 M M1) (fun f i (s : (Int32 × Int32) × dwSt) => L_X1_look_21 b (Int32.ofNat p) y (fun (y6 : Int32) (y7 : Int32) (M8 : dwSt) => (if y = 0 then some (.inl y6, M8) else some (.inl y7, M8) : dwR9 Int32)) f s.1.1 s.1.2 (Int32.ofNat i) s.2) (tJ (aT A)) (fun i s => s.1 = lokS A p i ∧ fr (cSc b) nz 0 0 M s.2) ?_ ?_ 1000000 0 ((-1, -1), M) (by omega) (by omega) ⟨rfl, fr.refl _⟩
  · intro f ⟨x, M1⟩ ⟨e, hf⟩
    have c1 := cinv_s hC hf
    have e' : x = _ := e
    refine ⟨M1, ?_, hf⟩
    show L_X1_look_21 b (Int32.ofNat p) y _ (f + 1) x.1 x.2 _ M1 = _
    simp -implicitDefEqProofs only [L_X1_look_21, ↓gp0_2, ↓gp0_3, ↓gp0_4, ↓gp0_5, ↓gp0_6, ↓gp0_7, ↓gp0_8, ↓gp0_9, ↓gp0_10, ↓gp0_18, ↓gp0_19, ↓gp0_20, ↓gp0_22, ↓gp23_43, ↓gp23_32, ↓gp23_33, ↓gp23_34, ↓gp23_35, ↓gp23_36, ↓gp29_43, ↓gp29_32, ↓gp29_33, ↓gp29_34, ↓gp29_35, ↓gp29_36, ↓gp54_53, ↓gp54_54, ↓gp54_55, ↓gp54_56, ↓gp54_57, ↓gp54_58, ↓gp54_59, ↓gp54_60, ↓gp54_61, ↓gp54_62, ↓gp54_65, ↓gp54_66, ↓gp54_67, ↓gp54_68, ↓gp54_69, ↓gp54_70, ↓gp54_71, ↓gp54_73, ↓gp54_74, ↓gp54_75, ↓gp54_76, ↓gp54_84, ↓gp54_85, ↓gp54_87, ↓gp54_88, ↓xr59, kr59, ↓xr67, kr67, ↓xr75, kr75, ↓xr82, kr82, ↓xr89, kr89, ↓xr102, kr102, ↓xr115, kr115, ↓xr276, kr276, ↓xr437, kr437, ↓xr444, kr444, ↓xr453, kr453, ↓xr536, kr536, ↓xr553, kr553, hs0, hw0, hs1, hw1, hs2, hw2, hs3, hw3, hs4, hw4, hs5, hw5, hs6, hw6, hs7, hw7, hs8, hw8, hs9, hw9, hs10, hw10, hs11, hw11, hs12, hw12, hs13, hw13, hs14, hw14, hs15, hw15, hs16, hw16, hs17, hw17, hs18, hw18, hs19, hw19, hs20, hw20, hs21, hw21, hs22, hw22, hs23, hw23, hs25, hw25, hs26, hw26, hs27, hw27, hs28, hw28, hs9b, hw9b, hs10b, hw10b, kd0, kd20, kd21, kd22, kd23, kd24, kd25, kd26, kd27, kd28, kd29, kd30, kd31, kd32, kd33, kd34, kd35, kd36, kd37, kd38, kd39, kd40, kd41, kd42, kd54, kd55, kd56, kd57, kd58, kd59, kd67, kd75, kd82, kd89, kd102, kd115, kd276, kd437, kd444, kd451, kd452, kd453, kd534, kd535, kd536, kd553, kd557, kd558, kd559, kd560, kd561, ↓xgI_u, ↓xpI_u, ↓xaI_u, ↓xsI_u, ↓xrk_u, ↓xrk0_u, ↓xob_v, ↓xmb_v, ↓xth_v, ↓xth_x, ↓jn_u, ↓xlen_u, ↓xaL_u, ↓xsL_u, ↓xbl_0, ↓xbl_1, eq_self, inb_n, inb_d, Sh_PI, Sh_PL, dk_PI, dk_PL, dr_PI, dr_PL, ↓reduceIte, Int32.reduceLE, Int32.reduceLT, Int32.reduceToNatClampNeg, Nat.reduceLT, Nat.reduceLeDiff, Nat.reduceEqDiff, Nat.reduceAdd, Nat.reduceMul, c1.1.1, c_jokes c1.1.1 c1.1.2.1, i_geT, if_true]
    unfold lokV
    rw [e']
    by_cases h : y = 0
    · rw [if_pos h, if_pos h]
    · rw [if_neg h, if_neg h]
  · intro f i ⟨x, M1⟩ hi ⟨e, hf⟩ hn
    have c1 := cinv_s hC hf
    have e' : x = _ := e
    have hi6 : i < 6 := by omega
    have b1 := c1.1.2.2.2.1.2 i hi6
    obtain ⟨M2, u, f2⟩ := C_worstAt c1 hp hi
    have hf2 := hf.t0 f2
    have es := lokS_e A p i
    rw [← e'] at es
    show ∃ M3, L_X1_look_21 b (Int32.ofNat p) y _ (f + 1) x.1 x.2 _ M1 = _ ∧ _
    simp -implicitDefEqProofs only [L_X1_look_21, ↓gp0_2, ↓gp0_3, ↓gp0_4, ↓gp0_5, ↓gp0_6, ↓gp0_7, ↓gp0_8, ↓gp0_9, ↓gp0_10, ↓gp0_18, ↓gp0_19, ↓gp0_20, ↓gp0_22, ↓gp23_43, ↓gp23_32, ↓gp23_33, ↓gp23_34, ↓gp23_35, ↓gp23_36, ↓gp29_43, ↓gp29_32, ↓gp29_33, ↓gp29_34, ↓gp29_35, ↓gp29_36, ↓gp54_53, ↓gp54_54, ↓gp54_55, ↓gp54_56, ↓gp54_57, ↓gp54_58, ↓gp54_59, ↓gp54_60, ↓gp54_61, ↓gp54_62, ↓gp54_65, ↓gp54_66, ↓gp54_67, ↓gp54_68, ↓gp54_69, ↓gp54_70, ↓gp54_71, ↓gp54_73, ↓gp54_74, ↓gp54_75, ↓gp54_76, ↓gp54_84, ↓gp54_85, ↓gp54_87, ↓gp54_88, ↓xr59, kr59, ↓xr67, kr67, ↓xr75, kr75, ↓xr82, kr82, ↓xr89, kr89, ↓xr102, kr102, ↓xr115, kr115, ↓xr276, kr276, ↓xr437, kr437, ↓xr444, kr444, ↓xr453, kr453, ↓xr536, kr536, ↓xr553, kr553, hs0, hw0, hs1, hw1, hs2, hw2, hs3, hw3, hs4, hw4, hs5, hw5, hs6, hw6, hs7, hw7, hs8, hw8, hs9, hw9, hs10, hw10, hs11, hw11, hs12, hw12, hs13, hw13, hs14, hw14, hs15, hw15, hs16, hw16, hs17, hw17, hs18, hw18, hs19, hw19, hs20, hw20, hs21, hw21, hs22, hw22, hs23, hw23, hs25, hw25, hs26, hw26, hs27, hw27, hs28, hw28, hs9b, hw9b, hs10b, hw10b, kd0, kd20, kd21, kd22, kd23, kd24, kd25, kd26, kd27, kd28, kd29, kd30, kd31, kd32, kd33, kd34, kd35, kd36, kd37, kd38, kd39, kd40, kd41, kd42, kd54, kd55, kd56, kd57, kd58, kd59, kd67, kd75, kd82, kd89, kd102, kd115, kd276, kd437, kd444, kd451, kd452, kd453, kd534, kd535, kd536, kd553, kd557, kd558, kd559, kd560, kd561, ↓xgI_u, ↓xpI_u, ↓xaI_u, ↓xsI_u, ↓xrk_u, ↓xrk0_u, ↓xob_v, ↓xmb_v, ↓xth_v, ↓xth_x, ↓jn_u, ↓xlen_u, ↓xaL_u, ↓xsL_u, ↓xbl_0, ↓xbl_1, eq_self, inb_n, inb_d, Sh_PI, Sh_PL, dk_PI, dk_PL, dr_PI, dr_PL, ↓reduceIte, Int32.reduceLE, Int32.reduceLT, Int32.reduceToNatClampNeg, Nat.reduceLT, Nat.reduceLeDiff, Nat.reduceEqDiff, Nat.reduceAdd, Nat.reduceMul, c1.1.1, c_jokes c1.1.1 c1.1.2.1, i_geF hi (by omega), if_false, hi6, i_nat (show i < 2147483648 by omega), b1, u, i_succ]
    by_cases hb : bookS (aBk A) i = -1
    · rw [if_pos hb]
      by_cases hx : x.1 = -1
      · rw [if_pos hx]
        rw [if_pos ⟨hb, Or.inl hx⟩] at es
        exact hn (_, M2) ⟨es.symm, hf2⟩
      · rw [if_neg hx]
        by_cases hl : (wrsS A p i 100).2 < x.2
        · rw [if_pos hl]
          rw [if_pos ⟨hb, Or.inr hl⟩] at es
          exact hn (_, M2) ⟨es.symm, hf2⟩
        · rw [if_neg hl]
          rw [if_neg (fun q => q.2.elim hx hl)] at es
          exact hn (_, M2) ⟨es.symm, hf2⟩
    · rw [if_neg hb]
      rw [if_neg (fun q => hb q.1)] at es
      exact hn (_, M1) ⟨es.symm, hf⟩
end CALL
