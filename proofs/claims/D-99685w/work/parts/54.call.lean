/-! comedians -/
def hbS (x y v u : Int32) : Int32 := if x ≤ y then (if x = y then v / 2 - u * x else 0 - u * x) else v - u * x
theorem e2z : ((2 : Int32) = 0) = False := eq_false (by decide)
theorem c_hb (x y v u : Int32) : m_X1_hasBy x y v u = some (hbS x y v u) := by
  unfold m_X1_hasBy hbS
  by_cases h : x ≤ y
  · rw [if_pos h, if_pos h]
    by_cases h2 : x = y
    · rw [if_pos h2, if_pos h2, xdiv_u e2z]
    · rw [if_neg h2, if_neg h2]
  · rw [if_neg h, if_neg h]
theorem t_hb (x y v u : Int32) : m_X10_hasBy x y v u = some (hbS x y v u) := c_hb x y v u
def bstB (x y v u : Int32) (n : Nat) : Bool := itr (fun k z => z && !decide (hbS x y v u < hbS (Int32.ofNat k) y v u)) true n
theorem t_isBest {x y v u : Int32} {n : Nat} (hn : n < 1000) : m_X10_isBest x y v u (Int32.ofNat n) = some (if bstB x y v u n = true then 1 else 0) := by
  simp -implicitDefEqProofs only [m_X10_isBest, jn_u]
  refine lpx (E := fun z => z = some (if bstB x y v u n = true then 1 else 0)) (fun f i (_ : Unit) => L_X10_isBest_3 x y v u (Int32.ofNat n) (fun (_u : Unit) => some (0 : Int32)) (fun (_u : Unit) => some (1 : Int32)) f (Int32.ofNat i)) n (fun i _ => bstB x y v u i = true) ?_ ?_ 1000000 0 () (by omega) (by omega) rfl
  · intro f _ e
    simp -implicitDefEqProofs only [L_X10_isBest_3, i_geT, if_true]
    rw [if_pos e]
  · intro f i _ hi e hnx
    simp -implicitDefEqProofs only [L_X10_isBest_3, i_geF hi (by omega), if_false, t_hb, xob_v, i_succ]
    by_cases hc : hbS (Int32.ofNat i) y v u ≤ hbS x y v u
    · rw [if_pos hc]
      exact hnx () (by show (bstB x y v u i && _) = true; rw [e, decide_eq_false (Int32.not_lt.mpr hc)]; rfl)
    · rw [if_neg hc]
      have : bstB x y v u n = false := and_f (n := i + 1) (by show (bstB x y v u i && _) = false; rw [e, decide_eq_true (Int32.not_le.mp hc)]; rfl) n (by omega)
      rw [this]; rfl
def rstB (v u : Int32) (n a c : Nat) : Bool := bstB (Int32.ofNat a) (Int32.ofNat c) v u n && bstB (Int32.ofNat c) (Int32.ofNat a) v u n
theorem c_isRest {v u : Int32} {n a c : Nat} (hn : n < 1000) : m_X1_isRest (Int32.ofNat a) (Int32.ofNat c) v u (Int32.ofNat n) = some (if rstB v u n a c = true then 1 else 0) := by
  simp -implicitDefEqProofs only [m_X1_isRest, jn_u]
  refine lpx (E := fun z => z = some (if rstB v u n a c = true then 1 else 0)) (fun f i (_ : Unit) => L_X1_isRest_3 (Int32.ofNat a) (Int32.ofNat c) v u (Int32.ofNat n) (fun (_u : Unit) => some (0 : Int32)) (fun (_u : Unit) => some (1 : Int32)) f (Int32.ofNat i)) n (fun i _ => bstB (Int32.ofNat a) (Int32.ofNat c) v u i = true ∧ bstB (Int32.ofNat c) (Int32.ofNat a) v u i = true) ?_ ?_ 1000000 0 () (by omega) (by omega) ⟨rfl, rfl⟩
  · intro f _ ⟨e1, e2⟩
    simp -implicitDefEqProofs only [L_X1_isRest_3, i_geT, if_true]
    rw [if_pos (by unfold rstB; rw [e1, e2]; rfl)]
  · intro f i _ hi ⟨e1, e2⟩ hnx
    simp -implicitDefEqProofs only [L_X1_isRest_3, i_geF hi (by omega), if_false, c_hb, xob_v, i_succ]
    by_cases hc : hbS (Int32.ofNat a) (Int32.ofNat c) v u < hbS (Int32.ofNat i) (Int32.ofNat c) v u
    · rw [if_pos hc]
      have : bstB (Int32.ofNat a) (Int32.ofNat c) v u n = false := and_f (n := i + 1) (by show (bstB _ _ v u i && _) = false; rw [e1, decide_eq_true hc]; rfl) n (by omega)
      unfold rstB
      rw [this]; rfl
    · rw [if_neg hc]
      by_cases hc2 : hbS (Int32.ofNat i) (Int32.ofNat a) v u ≤ hbS (Int32.ofNat c) (Int32.ofNat a) v u
      · rw [if_pos hc2]
        exact hnx () ⟨by show (bstB _ _ v u i && _) = true; rw [e1, decide_eq_false hc]; rfl, by show (bstB _ _ v u i && _) = true; rw [e2, decide_eq_false (Int32.not_lt.mpr hc2)]; rfl⟩
      · rw [if_neg hc2]
        have : bstB (Int32.ofNat c) (Int32.ofNat a) v u n = false := and_f (n := i + 1) (by show (bstB _ _ v u i && _) = false; rw [e2, decide_eq_true (Int32.not_le.mp hc2)]; rfl) n (by omega)
        unfold rstB
        rw [this, Bool.and_false]; rfl
/-- how many pairs are at rest; the first of them -/
def cmdP (v u : Int32) (n a c : Nat) (s : Nat × Nat × Nat) : Nat × Nat × Nat := if rstB v u n a c = true then (s.1 + 1, if s.1 = 0 then (a, c) else s.2) else s
def cmdI (v u : Int32) (n a : Nat) (s : Nat × Nat × Nat) (m : Nat) : Nat × Nat × Nat := itr (fun c s => cmdP v u n a c s) s m
def cmdO (v u : Int32) (n m : Nat) : Nat × Nat × Nat := itr (fun a s => cmdI v u n a s n) (0, 0, 0) m
theorem cmdI_le {v u : Int32} {n a : Nat} {s : Nat × Nat × Nat} (ha : a < 10) (h : s.2.1 < 10 ∧ s.2.2 < 10) : ∀ m, m ≤ 10 → (cmdI v u n a s m).1 ≤ s.1 + m ∧ (cmdI v u n a s m).2.1 < 10 ∧ (cmdI v u n a s m).2.2 < 10 := by
  intro m
  induction m with
  | zero => intro _; exact ⟨Nat.le_refl _, h⟩
  | succ m ih =>
    intro hm
    obtain ⟨h1, h2, h3⟩ := ih (by omega)
    show (cmdP v u n a m (cmdI v u n a s m)).1 ≤ _ ∧ (cmdP v u n a m (cmdI v u n a s m)).2.1 < 10 ∧ (cmdP v u n a m (cmdI v u n a s m)).2.2 < 10
    unfold cmdP
    split
    · refine ⟨by show _ + 1 ≤ _; omega, ?_⟩
      show (if _ then (a, m) else _).1 < 10 ∧ (if _ then (a, m) else _).2 < 10
      split
      · exact ⟨ha, by show m < 10; omega⟩
      · exact ⟨h2, h3⟩
    · exact ⟨by omega, h2, h3⟩
theorem cmdO_le {v u : Int32} {n : Nat} (hn : n ≤ 10) : ∀ m, m ≤ 10 → (cmdO v u n m).1 ≤ 10 * m ∧ (cmdO v u n m).2.1 < 10 ∧ (cmdO v u n m).2.2 < 10 := by
  intro m
  induction m with
  | zero => intro _; exact ⟨Nat.le_refl _, by show (0 : Nat) < 10; decide, by show (0 : Nat) < 10; decide⟩
  | succ m ih =>
    intro hm
    obtain ⟨h1, h2⟩ := ih (by omega)
    obtain ⟨h3, h4⟩ := cmdI_le (v := v) (u := u) (n := n) (a := m) (by omega) h2 n hn
    exact ⟨Nat.le_trans h3 (by omega), h4⟩
def cmdF (s : Nat × Nat × Nat) : Int32 := if s.1 = 0 then -1 else Int32.ofNat (10 * s.2.1 + s.2.2)
def cmdB (v u : Int32) (s : Nat × Nat × Nat) : Int32 := if s.1 = 0 then 0 else hbS (Int32.ofNat s.2.1) (Int32.ofNat s.2.2) v u + hbS (Int32.ofNat s.2.2) (Int32.ofNat s.2.1) v u
def cmdV (v u y : Int32) (n : Nat) : Int32 := if y = 0 then Int32.ofNat (cmdO v u n n).1 else if y = 1 then cmdF (cmdO v u n n) else cmdB v u (cmdO v u n n)
theorem cmdF_s {m : Nat} {q : Nat × Nat} : cmdF (m + 1, q) = Int32.ofNat (10 * q.1 + q.2) := by unfold cmdF; rw [if_neg (show ¬ m + 1 = 0 by omega)]
theorem cmdF_n {s : Nat × Nat × Nat} (h : ¬ s.1 = 0) : cmdF s = Int32.ofNat (10 * s.2.1 + s.2.2) := by unfold cmdF; rw [if_neg h]
theorem cmdB_s {v u : Int32} {m : Nat} {q : Nat × Nat} : cmdB v u (m + 1, q) = hbS (Int32.ofNat q.1) (Int32.ofNat q.2) v u + hbS (Int32.ofNat q.2) (Int32.ofNat q.1) v u := by unfold cmdB; rw [if_neg (show ¬ m + 1 = 0 by omega)]
theorem cmdB_n {v u : Int32} {s : Nat × Nat × Nat} (h : ¬ s.1 = 0) : cmdB v u s = hbS (Int32.ofNat s.2.1) (Int32.ofNat s.2.2) v u + hbS (Int32.ofNat s.2.2) (Int32.ofNat s.2.1) v u := by unfold cmdB; rw [if_neg h]
theorem x_r10c {a c : Nat} : Int32.ofNat (10 * a + c) - Int32.ofNat a * 10 = Int32.ofNat c := by
  rw [show (10 : Int32) = Int32.ofNat 10 from rfl, i_mul, i_sub (by omega)]
  congr 1; omega
theorem cmdF_1 {s : Nat × Nat × Nat} (h : s.2.1 < 10 ∧ s.2.2 < 10) : (cmdF s = -1) ↔ s.1 = 0 := by
  unfold cmdF
  by_cases e : s.1 = 0
  · rw [if_pos e]; exact ⟨fun _ => e, fun _ => rfl⟩
  · rw [if_neg e]
    constructor
    · intro q
      have := nn_m1 (n := 10 * s.2.1 + s.2.2) (by omega)
      rw [this] at q; exact q.elim
    · intro q; exact absurd q e
section CALL
variable {b : Nat} {w : Nat → Nat} {M : dwSt} {A : dvA}
theorem C_comedians {v u x2 y : Int32} (hC : CInv b w M A) (g0 : inV v 0 99 = 1) (g1 : inV u 0 20 = 1) (g2 : inV x2 1 6 = 1) (g3 : inV y 0 2 = 1) : ∃ M1, m_X1_comedians M b v u x2 y = some (.inl (cmdV v u y x2.toNatClampNeg), M1) ∧ fr (cSc b) nz 0 0 M M1 := by
  obtain ⟨n, hn, rfl⟩ := inV_1n (n := 6) (by omega) g2
  rw [i_nat (by omega)]
  have need : m_X1_need M b 1 = some (.inl (), M) := c_need1 rfl
  refine ⟨M, ?_, fr.refl M⟩
  simp -implicitDefEqProofs only [m_X1_comedians, ↓xgI_u, ↓xpI_u, ↓xaI_u, ↓xsI_u, ↓xrk_u, ↓xrk0_u, ↓xob_v, ↓xmb_v, ↓xth_v, ↓xth_x, ↓jn_u, ↓xlen_u, ↓xaL_u, ↓xsL_u, ↓xbl_0, ↓xbl_1, eq_self, inb_n, inb_d, Sh_PI, Sh_PL, dk_PI, dk_PL, dr_PI, dr_PL, ↓reduceIte, Int32.reduceLE, Int32.reduceLT, Int32.reduceToNatClampNeg, Nat.reduceLT, Nat.reduceLeDiff, Nat.reduceEqDiff, Nat.reduceAdd, Nat.reduceMul, kd0 hC.1.1, c_isIn, g0, g1, g2, g3, e10, need]
  generalize hK : (fun (y6 : Int32) (y7 : Int32) => (if y = 0 then some (.inl y6, M) else if y = 1 then some (.inl y7, M) else if y7 = (-1) then some (.inl 0, M) else xdiv y7 10 (fun (v8 : Int32) => xrem y7 10 (fun (v9 : Int32) => xob (m_X1_hasBy v8 v9 v u) (fun v10 => xrem y7 10 (fun (v11 : Int32) => xdiv y7 10 (fun (v12 : Int32) => xob (m_X1_hasBy v11 v12 v u) (fun v13 => some (.inl (v10 + v13), M))))))) : dwR9 Int32)) = K
  refine lpx (E := fun z => z = some (.inl (cmdV v u y n), M)) (fun f i (s : Int32 × Int32) => L_X1_comedians_58 M v u (Int32.ofNat n) y K f s.1 s.2 (Int32.ofNat i)) n (fun i s => s = (Int32.ofNat (cmdO v u n i).1, cmdF (cmdO v u n i))) ?_ ?_ 1000000 0 (0, -1) (by omega) (by omega) rfl
  · intro f s e
    subst e
    obtain ⟨h1, h2⟩ := cmdO_le (v := v) (u := u) (n := n) (by omega) n (by omega)
    simp -implicitDefEqProofs only [L_X1_comedians_58, i_geT, if_true]
    rw [← hK]
    unfold cmdV
    by_cases y0 : y = 0
    · simp only [y0, if_true]
    · by_cases y1 : y = 1
      · simp only [y1, if_true, e10, if_false]
      · simp only [y0, y1, if_false]
        by_cases h0 : (cmdO v u n n).1 = 0
        · rw [if_pos ((cmdF_1 h2).mpr h0)]
          unfold cmdB
          rw [if_pos h0]
        · rw [if_neg (fun q => h0 ((cmdF_1 h2).mp q))]
          unfold cmdB cmdF
          rw [if_neg h0, if_neg h0]
          generalize cmdO v u n n = X at *
          have a1 : (10 * X.2.1 + X.2.2) / 10 = X.2.1 := by omega
          have a2 : (10 * X.2.1 + X.2.2) % 10 = X.2.2 := by omega
          simp only [xdiv_u e100, xrem_u e100, x_d10 (show 10 * X.2.1 + X.2.2 < 2147483648 by omega), x_r10 (show 10 * X.2.1 + X.2.2 < 2147483648 by omega), a1, a2, x_r10c, c_hb, xob_v]
  · intro f i s hi e hnx
    subst e
    obtain ⟨h1, h2⟩ := cmdO_le (v := v) (u := u) (n := n) (by omega) i (by omega)
    show L_X1_comedians_58 M v u (Int32.ofNat n) y K (f + 1) _ _ (Int32.ofNat i) = _
    rw [L_X1_comedians_58]
    simp only [i_geF hi (by omega), if_false, jn_u, i_succ]
    refine lpx (E := fun z => z = some (.inl (cmdV v u y n), M)) (fun f' t (s : Int32 × Int32) => L_X1_comedians_67 M v u (Int32.ofNat n) y (Int32.ofNat i) (fun (y14 : Int32) (y15 : Int32) => L_X1_comedians_58 M v u (Int32.ofNat n) y K f y14 y15 (Int32.ofNat (i + 1))) f' s.1 s.2 (Int32.ofNat t)) n (fun t s => s = (Int32.ofNat (cmdI v u n i (cmdO v u n i) t).1, cmdF (cmdI v u n i (cmdO v u n i) t))) ?_ ?_ 1000000 0 (Int32.ofNat (cmdO v u n i).1, cmdF (cmdO v u n i)) (by omega) (by omega) rfl
    · intro f' s e
      subst e
      simp -implicitDefEqProofs only [L_X1_comedians_67, i_geT, if_true]
      exact hnx (_, _) rfl
    · intro f' t s ht e hn2
      subst e
      obtain ⟨h3, h4⟩ := cmdI_le (v := v) (u := u) (n := n) (a := i) (by omega) h2 t (by omega)
      have es : cmdI v u n i (cmdO v u n i) (t + 1) = cmdP v u n i t (cmdI v u n i (cmdO v u n i) t) := rfl
      unfold cmdP at es
      generalize cmdI v u n i (cmdO v u n i) t = X at *
      simp -implicitDefEqProofs only [L_X1_comedians_67, i_geF ht (by omega), if_false, c_isRest (show n < 1000 by omega), xob_v, jn_u, i_succ, x_10]
      by_cases hc : rstB v u n i t = true
      · rw [if_pos hc] at es
        rw [if_pos hc, if_neg (by decide)]
        by_cases h0 : X.1 = 0
        · rw [if_pos h0] at es
          rw [if_pos ((cmdF_1 h4).mpr h0)]
          exact hn2 (Int32.ofNat (X.1 + 1), Int32.ofNat (10 * i + t)) (by rw [es, cmdF_s])
        · rw [if_neg h0] at es
          rw [if_neg (fun q => h0 ((cmdF_1 h4).mp q))]
          exact hn2 (Int32.ofNat (X.1 + 1), cmdF X) (by rw [es, cmdF_s, cmdF_n h0])
      · rw [if_neg hc] at es
        rw [if_neg hc, if_pos rfl]
        exact hn2 (_, _) (by rw [es]; rfl)
theorem T_comedians {v u x2 y : Int32} (hT : TInv b M A) (g0 : inV v 0 99 = 1) (g1 : inV u 0 20 = 1) (g2 : inV x2 1 6 = 1) (g3 : inV y 0 2 = 1) : ∃ M1, m_X10_comedians M (b + 54) v u x2 y = some (cmdV v u y x2.toNatClampNeg, M1) ∧ fr (tSc b) nz 0 0 (dwPI M (b + 54) 44 0) M1 := by
  obtain ⟨n, hn, rfl⟩ := inV_1n (n := 6) (by omega) g2
  rw [i_nat (by omega)]
  obtain ⟨hT0, fz, z0⟩ := tinv_z hT
  have hs0 := hT0.1.1
  refine ⟨_, ?_, fr.refl _⟩
  simp -implicitDefEqProofs only [m_X10_comedians, ↓gp0_2, ↓gp0_3, ↓gp0_4, ↓gp0_5, ↓gp0_6, ↓gp0_7, ↓gp0_8, ↓gp0_9, ↓gp0_10, ↓gp0_18, ↓gp0_19, ↓gp0_20, ↓gp0_22, ↓gp23_43, ↓gp23_32, ↓gp23_33, ↓gp23_34, ↓gp23_35, ↓gp23_36, ↓gp29_43, ↓gp29_32, ↓gp29_33, ↓gp29_34, ↓gp29_35, ↓gp29_36, ↓gp54_53, ↓gp54_54, ↓gp54_55, ↓gp54_56, ↓gp54_57, ↓gp54_58, ↓gp54_59, ↓gp54_60, ↓gp54_61, ↓gp54_62, ↓gp54_65, ↓gp54_66, ↓gp54_67, ↓gp54_68, ↓gp54_69, ↓gp54_70, ↓gp54_71, ↓gp54_73, ↓gp54_74, ↓gp54_75, ↓gp54_76, ↓gp54_84, ↓gp54_85, ↓gp54_87, ↓gp54_88, ↓xr59, kr59, ↓xr67, kr67, ↓xr75, kr75, ↓xr82, kr82, ↓xr89, kr89, ↓xr102, kr102, ↓xr115, kr115, ↓xr276, kr276, ↓xr437, kr437, ↓xr444, kr444, ↓xr453, kr453, ↓xr536, kr536, ↓xr553, kr553, hs0, hw0, hs1, hw1, hs2, hw2, hs3, hw3, hs4, hw4, hs5, hw5, hs6, hw6, hs7, hw7, hs8, hw8, hs9, hw9, hs10, hw10, hs11, hw11, hs12, hw12, hs13, hw13, hs14, hw14, hs15, hw15, hs16, hw16, hs17, hw17, hs18, hw18, hs19, hw19, hs20, hw20, hs21, hw21, hs22, hw22, hs23, hw23, hs25, hw25, hs26, hw26, hs27, hw27, hs28, hw28, hs9b, hw9b, hs10b, hw10b, kd0, kd20, kd21, kd22, kd23, kd24, kd25, kd26, kd27, kd28, kd29, kd30, kd31, kd32, kd33, kd34, kd35, kd36, kd37, kd38, kd39, kd40, kd41, kd42, kd54, kd55, kd56, kd57, kd58, kd59, kd67, kd75, kd82, kd89, kd102, kd115, kd276, kd437, kd444, kd451, kd452, kd453, kd534, kd535, kd536, kd553, kd557, kd558, kd559, kd560, kd561, ↓xgI_u, ↓xpI_u, ↓xaI_u, ↓xsI_u, ↓xrk_u, ↓xrk0_u, ↓xob_v, ↓xmb_v, ↓xth_v, ↓xth_x, ↓jn_u, ↓xlen_u, ↓xaL_u, ↓xsL_u, ↓xbl_0, ↓xbl_1, eq_self, inb_n, inb_d, Sh_PI, Sh_PL, dk_PI, dk_PL, dr_PI, dr_PL, ↓reduceIte, Int32.reduceLE, Int32.reduceLT, Int32.reduceToNatClampNeg, Nat.reduceLT, Nat.reduceLeDiff, Nat.reduceEqDiff, Nat.reduceAdd, Nat.reduceMul, hT.1.1, t_in, g0, g1, g2, g3, e10, t_bad0 hs0 z0]
  generalize dwPI M (b + 54) 44 0 = M0 at *
  generalize hK : (fun (y7 : Int32) (y8 : Int32) (y9 : Int32) => if y = 0 then some (y7, M0) else if y = 1 then some (y8, M0) else some (y9, M0)) = K
  refine lpx (E := fun z => z = some (cmdV v u y n, M0)) (fun f i (s : Int32 × Int32 × Int32) => L_X10_comedians_73 M0 v u (Int32.ofNat n) y K f s.1 s.2.1 s.2.2 (Int32.ofNat i)) n (fun i s => s = (Int32.ofNat (cmdO v u n i).1, cmdF (cmdO v u n i), cmdB v u (cmdO v u n i))) ?_ ?_ 1000000 0 (0, -1, 0) (by omega) (by omega) rfl
  · intro f s e
    subst e
    simp -implicitDefEqProofs only [L_X10_comedians_73, i_geT, if_true]
    rw [← hK]
    unfold cmdV
    by_cases y0 : y = 0
    · simp only [y0, if_true]
    · by_cases y1 : y = 1
      · simp only [y1, if_true, e10, if_false]
      · simp only [y0, y1, if_false]
  · intro f i s hi e hnx
    subst e
    obtain ⟨h1, h2⟩ := cmdO_le (v := v) (u := u) (n := n) (by omega) i (by omega)
    show L_X10_comedians_73 M0 v u (Int32.ofNat n) y K (f + 1) _ _ _ (Int32.ofNat i) = _
    rw [L_X10_comedians_73]
    simp only [i_geF hi (by omega), if_false, jn_u, i_succ]
    refine lpx (E := fun z => z = some (cmdV v u y n, M0)) (fun f' t (s : Int32 × Int32 × Int32) => L_X10_comedians_82 M0 v u (Int32.ofNat n) y (Int32.ofNat i) (fun (y14 : Int32) (y15 : Int32) (y16 : Int32) => L_X10_comedians_73 M0 v u (Int32.ofNat n) y K f y14 y15 y16 (Int32.ofNat (i + 1))) f' s.1 s.2.1 s.2.2 (Int32.ofNat t)) n (fun t s => s = (Int32.ofNat (cmdI v u n i (cmdO v u n i) t).1, cmdF (cmdI v u n i (cmdO v u n i) t), cmdB v u (cmdI v u n i (cmdO v u n i) t))) ?_ ?_ 1000000 0 (Int32.ofNat (cmdO v u n i).1, cmdF (cmdO v u n i), cmdB v u (cmdO v u n i)) (by omega) (by omega) rfl
    · intro f' s e
      subst e
      simp -implicitDefEqProofs only [L_X10_comedians_82, i_geT, if_true]
      exact hnx (_, _, _) rfl
    · intro f' t s ht e hn2
      subst e
      obtain ⟨h3, h4⟩ := cmdI_le (v := v) (u := u) (n := n) (a := i) (by omega) h2 t (by omega)
      have es : cmdI v u n i (cmdO v u n i) (t + 1) = cmdP v u n i t (cmdI v u n i (cmdO v u n i) t) := rfl
      unfold cmdP rstB at es
      generalize cmdI v u n i (cmdO v u n i) t = X at *
      simp -implicitDefEqProofs only [L_X10_comedians_82, i_geF ht (by omega), if_false, t_isBest (show n < 1000 by omega), xob_v, jn_u, i_succ, x_10]
      by_cases hc : bstB (Int32.ofNat i) (Int32.ofNat t) v u n = true
      · rw [if_pos hc, if_neg (by decide)]
        by_cases hc2 : bstB (Int32.ofNat t) (Int32.ofNat i) v u n = true
        · rw [if_pos (by rw [hc, hc2]; rfl)] at es
          rw [if_pos hc2, if_neg (by decide)]
          by_cases h0 : X.1 = 0
          · rw [if_pos h0] at es
            simp only [show (Int32.ofNat X.1 = 0) = True from eq_true (by rw [h0]; rfl), if_true, t_hb, xob_v]
            exact hn2 (Int32.ofNat (X.1 + 1), Int32.ofNat (10 * i + t), hbS (Int32.ofNat i) (Int32.ofNat t) v u + hbS (Int32.ofNat t) (Int32.ofNat i) v u) (by rw [es, cmdF_s, cmdB_s])
          · rw [if_neg h0] at es
            have h0' : ¬ Int32.ofNat X.1 = 0 := by rw [← i_zero, i_inj (by omega) (by omega)]; exact h0
            simp only [h0', if_false]
            exact hn2 (Int32.ofNat (X.1 + 1), cmdF X, cmdB v u X) (by rw [es, cmdF_s, cmdB_s, cmdF_n h0, cmdB_n h0])
        · rw [if_neg (by rw [Bool.and_eq_true]; exact fun q => hc2 q.2)] at es
          rw [if_neg hc2, if_pos rfl]
          exact hn2 (_, _, _) (by rw [es]; rfl)
      · rw [if_neg (by rw [Bool.and_eq_true]; exact fun q => hc q.1)] at es
        rw [if_neg hc, if_pos rfl]
        exact hn2 (_, _, _) (by rw [es]; rfl)
end CALL
