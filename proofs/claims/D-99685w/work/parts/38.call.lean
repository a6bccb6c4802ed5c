theorem sFa_c {b : Nat} {M1 M2 : dwSt} (f : fr (sFa b) nz 0 0 M1 M2) : fr (cSc b) nz 0 0 M1 M2 := f.mono (fun a k q => Or.inr (Or.inl q)) (fun _ _ q => q) (Nat.le_refl _) (Nat.le_refl _)
theorem sKn_s {b : Nat} {M1 M2 : dwSt} (f : fr (sKn b) nz 0 0 M1 M2) : fr (tSc b) nz 0 0 M1 M2 := f.mono (fun a k q => by unfold sKn at q; unfold tSc; omega) (fun _ _ q => q) (Nat.le_refl _) (Nat.le_refl _)
theorem max_more2 (x y : Int32) : (if x < y then y else x) = moreS x y := by
  unfold moreS
  by_cases e : x < y
  · rw [if_pos e, if_pos (Int32.le_of_lt e)]
  · rw [if_neg e]
    by_cases e2 : x ≤ y
    · rw [if_pos e2, Int32.le_antisymm e2 (Int32.not_lt.mp e)]
    · rw [if_neg e2]
theorem x_d10 {k : Nat} (h : k < 2147483648) : Int32.ofNat k / 10 = Int32.ofNat (k / 10) := (Int32.ofNat_div (a := k) (b := 10) (by omega) (by omega)).symm
theorem x_r10 {k : Nat} (h : k < 2147483648) : Int32.ofNat k - Int32.ofNat (k / 10) * 10 = Int32.ofNat (k % 10) := by
  rw [show (10 : Int32) = Int32.ofNat 10 from rfl, i_mul, ← Int32.ofNat_sub _ _ (by omega)]
  congr 1; omega
theorem e100 : ((10 : Int32) = 0) = False := eq_false (by decide)
theorem and_f {f : Nat → Bool} {n : Nat} (h : itr (fun k x => x && f k) true n = false) : ∀ m, n ≤ m → itr (fun k x => x && f k) true m = false := by
  intro m hm
  induction m with
  | zero => rw [show n = 0 by omega] at h; exact h
  | succ m ih =>
    by_cases e : n = m + 1
    · rw [← e]; exact h
    · show (itr (fun k x => x && f k) true m && f m) = false
      rw [ih (by omega)]; rfl
theorem and_t {f : Nat → Bool} : ∀ n, itr (fun k x => x && f k) true n = true ↔ ∀ k, k < n → f k = true := by
  intro n
  induction n with
  | zero => exact ⟨fun _ k h => by omega, fun _ => rfl⟩
  | succ n ih =>
    show (itr (fun k x => x && f k) true n && f n) = true ↔ _
    rw [Bool.and_eq_true, ih]
    constructor
    · intro ⟨h1, h2⟩ k hk
      by_cases e : k = n
      · subst e; exact h2
      · exact h1 k (by omega)
    · intro h; exact ⟨fun k hk => h k (by omega), h n (by omega)⟩
/-! the book -/
theorem book_n {B : Nat × (Nat → Nat → Int32)} {j : Nat} : ∀ n, (∀ k, k < n → B.2 k 0 ≠ Int32.ofNat j) → itr (fun k x => if B.2 k 0 = Int32.ofNat j then B.2 k 1 else x) (-1) n = -1 := by
  intro n
  induction n with
  | zero => intro _; rfl
  | succ n ih => intro h; show (if B.2 n 0 = Int32.ofNat j then _ else _) = _; rw [if_neg (h n (by omega)), ih fun k hk => h k (by omega)]
theorem book_k {B : Nat × (Nat → Nat → Int32)} {j k : Nat} (hk : B.2 k 0 = Int32.ofNat j) : ∀ n, k < n → (∀ l, k < l → l < n → B.2 l 0 ≠ Int32.ofNat j) → itr (fun k x => if B.2 k 0 = Int32.ofNat j then B.2 k 1 else x) (-1) n = B.2 k 1 := by
  intro n
  induction n with
  | zero => intro h _; omega
  | succ n ih =>
    intro h hl
    show (if B.2 n 0 = Int32.ofNat j then _ else _) = _
    by_cases e : k = n
    · subst e; rw [if_pos hk]
    · rw [if_neg (hl n (by omega) (by omega)), ih (by omega) fun l h1 h2 => hl l h1 (by omega)]
theorem book_s {T : dvT} {B : Nat × (Nat → Nat → Int32)} {j k : Nat} (h : bkOK T B) (hk : k < B.1) (e : B.2 k 0 = Int32.ofNat j) : bookS B j = B.2 k 1 :=
  book_k e B.1 hk fun l h1 h2 q => h.2.2 l k h2 h1 (q.trans e.symm)
theorem book_m {T : dvT} {B : Nat × (Nat → Nat → Int32)} {j : Nat} (h : bkOK T B) : bookS B j = -1 ↔ ∀ k, k < B.1 → B.2 k 0 ≠ Int32.ofNat j := by
  constructor
  · intro hb k hk e
    rw [book_s h hk e] at hb
    obtain ⟨_, _, _, h1, _⟩ := h.2.1 k hk
    rw [hb] at h1
    exact absurd h1 (by decide)
  · exact fun hh => book_n B.1 hh
def fitB (A : dvA) (p : Nat) (t g : Int32) : Bool := itr (fun k x => x && (laughS (aT A) (aLw A) (aNow A) ((aBk A).2 k 0).toNatClampNeg p t g 0 == (aBk A).2 k 1)) true (aBk A).1
theorem fit_iff {A : dvA} {p : Nat} {t g : Int32} (h : bkOK (aT A) (aBk A)) (hJ : tJ (aT A) ≤ 6) : fitB A p t g = true ↔ ∀ j, j < tJ (aT A) → bookS (aBk A) j = -1 ∨ laughS (aT A) (aLw A) (aNow A) j p t g 0 = bookS (aBk A) j := by
  unfold fitB
  rw [and_t]
  constructor
  · intro hh j hj
    by_cases hb : bookS (aBk A) j = -1
    · exact Or.inl hb
    · right
      rw [book_m h] at hb
      have hb2 : ∃ k, k < (aBk A).1 ∧ (aBk A).2 k 0 = Int32.ofNat j := Classical.byContradiction fun q => hb fun k hk e => q ⟨k, hk, e⟩
      obtain ⟨k, hk, e⟩ := hb2
      have := hh k hk
      rw [e, i_nat (by omega), beq_iff_eq] at this
      rw [this, book_s h hk e]
  · intro hh k hk
    obtain ⟨j, hj, e, h1, h2⟩ := h.2.1 k hk
    rw [e, i_nat (by omega), beq_iff_eq]
    rcases hh j hj with q | q
    · rw [book_s h hk e] at q
      rw [q] at h1
      exact absurd h1 (by decide)
    · rw [q, book_s h hk e]
section CALL
variable {b : Nat} {w : Nat → Nat} {M : dwSt} {A : dvA}
/-! how long a joke lasts -/
def lstL (A : dvA) (j p n : Nat) : Int32 := laughS (aT A) (aLw A) (aNow A) j p (tpe (aT A) p 1) (aNow A p) (Int32.ofNat n)
def lstN (A : dvA) (j p m : Nat) : Nat := itr (fun k n => if n = k ∧ ¬ lstL A j p k = 0 then k + 1 else n) 0 m
theorem lstN_e (A : dvA) (j p m : Nat) : lstN A j p (m + 1) = if lstN A j p m = m ∧ ¬ lstL A j p m = 0 then m + 1 else lstN A j p m := rfl
theorem lstN_s {A : dvA} {j p i : Nat} (h : lstN A j p i = i) (h0 : lstL A j p i = 0) : ∀ m, i ≤ m → lstN A j p m = i := by
  intro m hm
  induction m with
  | zero => rw [show i = 0 by omega] at h ⊢; exact h
  | succ m ih =>
    by_cases e : i = m + 1
    · rw [← e]; exact h
    · rw [lstN_e, ih (by omega)]
      by_cases e2 : i = m
      · subst e2; rw [if_neg (fun q => q.2 h0)]
      · rw [if_neg (fun q => e2 q.1)]
theorem lstN_n {A : dvA} {j p i : Nat} (h : lstN A j p i = i) (h0 : ¬ lstL A j p i = 0) : lstN A j p (i + 1) = i + 1 := by
  rw [lstN_e, if_pos ⟨h, h0⟩]
theorem lstN_le {A : dvA} {j p : Nat} : ∀ m, lstN A j p m ≤ m := by
  intro m
  induction m with
  | zero => exact Nat.le_refl _
  | succ m ih =>
    rw [lstN_e]
    split <;> omega
theorem C_lastsBy {j p : Nat} (hC : CInv b w M A) (hj : j < tJ (aT A)) (hp : p < tP (aT A)) : ∃ M1, m_X1_lastsBy M b (Int32.ofNat j) (Int32.ofNat p) = some (Int32.ofNat (lstN A j p 99), M1) ∧ fr (cSc b) nz 0 0 M M1 := by
  have o1 := hC.1.ok.1.1
  have hp7 : p < 7 := by omega
  simp -implicitDefEqProofs only [m_X1_lastsBy, jn_u]
  refine lpx (E := fun x => ∃ M1, x = some (Int32.ofNat (lstN A j p 99), M1) ∧ fr (cSc b) nz 0 0 M M1) (fun f i (M1 : dwSt) => L_X1_lastsBy_2 b (Int32.ofNat j) (Int32.ofNat p) (fun (y1 : Int32) (M2 : dwSt) => some (y1, M2)) f (Int32.ofNat i) M1) 99 (fun i M1 => lstN A j p i = i ∧ fr (cSc b) nz 0 0 M M1) ?_ ?_ 1000000 0 M (by omega) (by omega) ⟨rfl, fr.refl M⟩
  · intro f M1 ⟨e, hf⟩
    refine ⟨M1, ?_, hf⟩
    rw [L_X1_lastsBy_2, if_pos (by decide), e]
  · intro f i M1 hi ⟨e, hf⟩ hn
    have c1 := cinv_s hC hf
    have h99 := i_geF hi (by omega)
    obtain ⟨M2, u, f2⟩ := c_laughBy (t := tpe (aT A) p 1) (g := aNow A p) (m := Int32.ofNat i) c1.e c1.1.2.2.2.2.1 hj hp
    have hf2 := hf.t0 (f2.mono (S' := cSc b) (fun a k q => Or.inr (Or.inl q)) (fun _ _ q => q) (Nat.le_refl _) (Nat.le_refl _))
    obtain ⟨q, q1, q2, q3, q4, -⟩ := c_personOf c1.1.1 c1.1.2.1 hp
    have r1 := c1.1.2.2.2.2.1.2.1 p hp7
    show ∃ M3, L_X1_lastsBy_2 b (Int32.ofNat j) (Int32.ofNat p) _ (f + 1) (Int32.ofNat i) M1 = _ ∧ _
    rw [L_X1_lastsBy_2, if_neg (show ¬ (99 : Int32) ≤ Int32.ofNat i from fun q => (h99 ▸ q : False))]
    obtain ⟨v, hv, ev⟩ := clamp_b (aLw A (facS (tjo (aT A) j 1) (apartS (aT A) j (tpe (aT A) p 1)) (aNow A (35 + 7 * j + p) + Int32.ofNat i) (sumS (tP (aT A)) (aNow A) (35 + 7 * j) + Int32.ofNat i) (tpe (aT A) p 0) (aNow A p) (onesS (nearS (aT A) p &&& whoS (tP (aT A)) (aNow A) 0)) (aNow A (7 + p)) (aNow A 78) (Int32.ofNat p)))
    have hl : lstL A j p i = Int32.ofNat v := ev
    simp only [↓gp0_2, ↓gp0_3, ↓gp0_4, ↓gp0_5, ↓gp0_6, ↓gp0_7, ↓gp0_8, ↓gp0_9, ↓gp0_10, ↓gp0_18, ↓gp0_19, ↓gp0_20, ↓gp0_22, ↓gp23_43, ↓gp23_32, ↓gp23_33, ↓gp23_34, ↓gp23_35, ↓gp23_36, ↓gp29_43, ↓gp29_32, ↓gp29_33, ↓gp29_34, ↓gp29_35, ↓gp29_36, ↓gp54_53, ↓gp54_54, ↓gp54_55, ↓gp54_56, ↓gp54_57, ↓gp54_58, ↓gp54_59, ↓gp54_60, ↓gp54_61, ↓gp54_62, ↓gp54_65, ↓gp54_66, ↓gp54_67, ↓gp54_68, ↓gp54_69, ↓gp54_70, ↓gp54_71, ↓gp54_73, ↓gp54_74, ↓gp54_75, ↓gp54_76, ↓gp54_84, ↓gp54_85, ↓gp54_87, ↓gp54_88, ↓xr59, kr59, ↓xr67, kr67, ↓xr75, kr75, ↓xr82, kr82, ↓xr89, kr89, ↓xr102, kr102, ↓xr115, kr115, ↓xr276, kr276, ↓xr437, kr437, ↓xr444, kr444, ↓xr453, kr453, ↓xr536, kr536, ↓xr553, kr553, hs0, hw0, hs1, hw1, hs2, hw2, hs3, hw3, hs4, hw4, hs5, hw5, hs6, hw6, hs7, hw7, hs8, hw8, hs9, hw9, hs10, hw10, hs11, hw11, hs12, hw12, hs13, hw13, hs14, hw14, hs15, hw15, hs16, hw16, hs17, hw17, hs18, hw18, hs19, hw19, hs20, hw20, hs21, hw21, hs22, hw22, hs23, hw23, hs25, hw25, hs26, hw26, hs27, hw27, hs28, hw28, hs9b, hw9b, hs10b, hw10b, kd0, kd20, kd21, kd22, kd23, kd24, kd25, kd26, kd27, kd28, kd29, kd30, kd31, kd32, kd33, kd34, kd35, kd36, kd37, kd38, kd39, kd40, kd41, kd42, kd54, kd55, kd56, kd57, kd58, kd59, kd67, kd75, kd82, kd89, kd102, kd115, kd276, kd437, kd444, kd451, kd452, kd453, kd534, kd535, kd536, kd553, kd557, kd558, kd559, kd560, kd561, ↓xgI_u, ↓xpI_u, ↓xaI_u, ↓xsI_u, ↓xrk_u, ↓xrk0_u, ↓xob_v, ↓xmb_v, ↓xth_v, ↓xth_x, ↓jn_u, ↓xlen_u, ↓xaL_u, ↓xsL_u, ↓xbl_0, ↓xbl_1, eq_self, inb_n, inb_d, Sh_PI, Sh_PL, dk_PI, dk_PL, dr_PI, dr_PL, ↓reduceIte, Int32.reduceLE, Int32.reduceLT, Int32.reduceToNatClampNeg, Nat.reduceLT, Nat.reduceLeDiff, Nat.reduceEqDiff, Nat.reduceAdd, Nat.reduceMul, c1.1.1, q1, q2, hs6, q4, hp7, i_nat (show p < 2147483648 by omega), r1, u]
    by_cases h0 : lstL A j p i = 0
    · rw [if_pos (show laughS _ _ _ _ _ _ _ _ ≤ (0 : Int32) from by show lstL A j p i ≤ 0; rw [h0]; exact Int32.le_refl 0)]
      exact ⟨M2, by rw [lstN_s e h0 99 (by omega)], hf2⟩
    · rw [if_neg (show ¬ laughS _ _ _ _ _ _ _ _ ≤ (0 : Int32) from by
        show ¬ lstL A j p i ≤ 0
        rw [hl] at h0 ⊢
        rw [← i_zero, i_le (by omega) (by omega)]
        intro q; rw [show v = 0 by omega] at h0; exact h0 rfl), i_succ]
      exact hn M2 ⟨lstN_n e h0, hf2⟩
theorem C_lasts {j p : Nat} (hC : CInv b w M A) (hj : j < tJ (aT A)) (hp : p < tP (aT A)) : ∃ M1, m_X1_lasts M b (Int32.ofNat j) (Int32.ofNat p) = some (.inl (Int32.ofNat (lstN A j p 99)), M1) ∧ fr (cSc b) nz 0 0 M M1 := by
  obtain ⟨M1, e, f⟩ := C_lastsBy hC hj hp
  refine ⟨M1, ?_, f⟩
  simp -implicitDefEqProofs only [m_X1_lasts, ↓gp0_2, ↓gp0_3, ↓gp0_4, ↓gp0_5, ↓gp0_6, ↓gp0_7, ↓gp0_8, ↓gp0_9, ↓gp0_10, ↓gp0_18, ↓gp0_19, ↓gp0_20, ↓gp0_22, ↓gp23_43, ↓gp23_32, ↓gp23_33, ↓gp23_34, ↓gp23_35, ↓gp23_36, ↓gp29_43, ↓gp29_32, ↓gp29_33, ↓gp29_34, ↓gp29_35, ↓gp29_36, ↓gp54_53, ↓gp54_54, ↓gp54_55, ↓gp54_56, ↓gp54_57, ↓gp54_58, ↓gp54_59, ↓gp54_60, ↓gp54_61, ↓gp54_62, ↓gp54_65, ↓gp54_66, ↓gp54_67, ↓gp54_68, ↓gp54_69, ↓gp54_70, ↓gp54_71, ↓gp54_73, ↓gp54_74, ↓gp54_75, ↓gp54_76, ↓gp54_84, ↓gp54_85, ↓gp54_87, ↓gp54_88, ↓xr59, kr59, ↓xr67, kr67, ↓xr75, kr75, ↓xr82, kr82, ↓xr89, kr89, ↓xr102, kr102, ↓xr115, kr115, ↓xr276, kr276, ↓xr437, kr437, ↓xr444, kr444, ↓xr453, kr453, ↓xr536, kr536, ↓xr553, kr553, hs0, hw0, hs1, hw1, hs2, hw2, hs3, hw3, hs4, hw4, hs5, hw5, hs6, hw6, hs7, hw7, hs8, hw8, hs9, hw9, hs10, hw10, hs11, hw11, hs12, hw12, hs13, hw13, hs14, hw14, hs15, hw15, hs16, hw16, hs17, hw17, hs18, hw18, hs19, hw19, hs20, hw20, hs21, hw21, hs22, hw22, hs23, hw23, hs25, hw25, hs26, hw26, hs27, hw27, hs28, hw28, hs9b, hw9b, hs10b, hw10b, kd0, kd20, kd21, kd22, kd23, kd24, kd25, kd26, kd27, kd28, kd29, kd30, kd31, kd32, kd33, kd34, kd35, kd36, kd37, kd38, kd39, kd40, kd41, kd42, kd54, kd55, kd56, kd57, kd58, kd59, kd67, kd75, kd82, kd89, kd102, kd115, kd276, kd437, kd444, kd451, kd452, kd453, kd534, kd535, kd536, kd553, kd557, kd558, kd559, kd560, kd561, ↓xgI_u, ↓xpI_u, ↓xaI_u, ↓xsI_u, ↓xrk_u, ↓xrk0_u, ↓xob_v, ↓xmb_v, ↓xth_v, ↓xth_x, ↓jn_u, ↓xlen_u, ↓xaL_u, ↓xsL_u, ↓xbl_0, ↓xbl_1, eq_self, inb_n, inb_d, Sh_PI, Sh_PL, dk_PI, dk_PL, dr_PI, dr_PL, ↓reduceIte, Int32.reduceLE, Int32.reduceLT, Int32.reduceToNatClampNeg, Nat.reduceLT, Nat.reduceLeDiff, Nat.reduceEqDiff, Nat.reduceAdd, Nat.reduceMul, hC.1.1, c_twoT hC hj hp, e]
def welS (A : dvA) (j p m : Nat) : Int32 := itr (fun k s => s + lstL A j p k) 0 m
theorem wel_mul {A : dvA} {j p : Nat} {d : Int32} : ∀ m, itr (fun k s => s + lstL A j p k * d) 0 m = welS A j p m * d := by
  intro m
  induction m with
  | zero => show (0 : Int32) = 0 * d; rw [Int32.zero_mul]
  | succ m ih => show itr (fun k s => s + lstL A j p k * d) 0 m + _ = (welS A j p m + _) * d; rw [ih, Int32.add_mul]
theorem C_well {j p : Nat} (hC : CInv b w M A) (hj : j < tJ (aT A)) (hp : p < tP (aT A)) : ∃ M1, m_X1_well M b (Int32.ofNat j) (Int32.ofNat p) = some (.inl (welS A j p (lstN A j p 99) * tpe (aT A) p 0), M1) ∧ fr (cSc b) nz 0 0 M M1 := by
  have o1 := hC.1.ok.1.1
  have hp7 : p < 7 := by omega
  obtain ⟨M0, e0, f0⟩ := C_lastsBy hC hj hp
  have hle := lstN_le (A := A) (j := j) (p := p) 99
  simp -implicitDefEqProofs only [m_X1_well, ↓gp0_2, ↓gp0_3, ↓gp0_4, ↓gp0_5, ↓gp0_6, ↓gp0_7, ↓gp0_8, ↓gp0_9, ↓gp0_10, ↓gp0_18, ↓gp0_19, ↓gp0_20, ↓gp0_22, ↓gp23_43, ↓gp23_32, ↓gp23_33, ↓gp23_34, ↓gp23_35, ↓gp23_36, ↓gp29_43, ↓gp29_32, ↓gp29_33, ↓gp29_34, ↓gp29_35, ↓gp29_36, ↓gp54_53, ↓gp54_54, ↓gp54_55, ↓gp54_56, ↓gp54_57, ↓gp54_58, ↓gp54_59, ↓gp54_60, ↓gp54_61, ↓gp54_62, ↓gp54_65, ↓gp54_66, ↓gp54_67, ↓gp54_68, ↓gp54_69, ↓gp54_70, ↓gp54_71, ↓gp54_73, ↓gp54_74, ↓gp54_75, ↓gp54_76, ↓gp54_84, ↓gp54_85, ↓gp54_87, ↓gp54_88, ↓xr59, kr59, ↓xr67, kr67, ↓xr75, kr75, ↓xr82, kr82, ↓xr89, kr89, ↓xr102, kr102, ↓xr115, kr115, ↓xr276, kr276, ↓xr437, kr437, ↓xr444, kr444, ↓xr453, kr453, ↓xr536, kr536, ↓xr553, kr553, hs0, hw0, hs1, hw1, hs2, hw2, hs3, hw3, hs4, hw4, hs5, hw5, hs6, hw6, hs7, hw7, hs8, hw8, hs9, hw9, hs10, hw10, hs11, hw11, hs12, hw12, hs13, hw13, hs14, hw14, hs15, hw15, hs16, hw16, hs17, hw17, hs18, hw18, hs19, hw19, hs20, hw20, hs21, hw21, hs22, hw22, hs23, hw23, hs25, hw25, hs26, hw26, hs27, hw27, hs28, hw28, hs9b, hw9b, hs10b, hw10b, kd0, kd20, kd21, kd22, kd23, kd24, kd25, kd26, kd27, kd28, kd29, kd30, kd31, kd32, kd33, kd34, kd35, kd36, kd37, kd38, kd39, kd40, kd41, kd42, kd54, kd55, kd56, kd57, kd58, kd59, kd67, kd75, kd82, kd89, kd102, kd115, kd276, kd437, kd444, kd451, kd452, kd453, kd534, kd535, kd536, kd553, kd557, kd558, kd559, kd560, kd561, ↓xgI_u, ↓xpI_u, ↓xaI_u, ↓xsI_u, ↓xrk_u, ↓xrk0_u, ↓xob_v, ↓xmb_v, ↓xth_v, ↓xth_x, ↓jn_u, ↓xlen_u, ↓xaL_u, ↓xsL_u, ↓xbl_0, ↓xbl_1, eq_self, inb_n, inb_d, Sh_PI, Sh_PL, dk_PI, dk_PL, dr_PI, dr_PL, ↓reduceIte, Int32.reduceLE, Int32.reduceLT, Int32.reduceToNatClampNeg, Nat.reduceLT, Nat.reduceLeDiff, Nat.reduceEqDiff, Nat.reduceAdd, Nat.reduceMul, hC.1.1, c_twoT hC hj hp, e0]
  refine lpx (E := fun x => ∃ M1, x = some (.inl (welS A j p (lstN A j p 99) * tpe (aT A) p 0), M1) ∧ fr (cSc b) nz 0 0 M M1) (fun f i (s : Int32 × dwSt) => L_X1_well_19 b (Int32.ofNat j) (Int32.ofNat p) (Int32.ofNat (lstN A j p 99)) (fun (y5 : Int32) (M6 : dwSt) => (xrk M6 b 0 (xob (m_X1_personOf M6 b (Int32.ofNat p)) (fun v7 => xgI M6 104 v7 (fun v8 => some (.inl (y5 * v8), M6)))) : dwR9 Int32)) f s.1 (Int32.ofNat i) s.2) (lstN A j p 99) (fun i s => s.1 = welS A j p i ∧ fr (cSc b) nz 0 0 M s.2) ?_ ?_ 1000000 0 (0, M0) (by omega) (by omega) ⟨rfl, f0⟩
  · intro f ⟨x, M1⟩ ⟨e, hf⟩
    have c1 := cinv_s hC hf
    obtain ⟨q, q1, q2, q3, q4, -⟩ := c_personOf c1.1.1 c1.1.2.1 hp
    refine ⟨M1, ?_, hf⟩
    show L_X1_well_19 b (Int32.ofNat j) (Int32.ofNat p) _ _ (f + 1) x _ M1 = _
    simp -implicitDefEqProofs only [L_X1_well_19, ↓gp0_2, ↓gp0_3, ↓gp0_4, ↓gp0_5, ↓gp0_6, ↓gp0_7, ↓gp0_8, ↓gp0_9, ↓gp0_10, ↓gp0_18, ↓gp0_19, ↓gp0_20, ↓gp0_22, ↓gp23_43, ↓gp23_32, ↓gp23_33, ↓gp23_34, ↓gp23_35, ↓gp23_36, ↓gp29_43, ↓gp29_32, ↓gp29_33, ↓gp29_34, ↓gp29_35, ↓gp29_36, ↓gp54_53, ↓gp54_54, ↓gp54_55, ↓gp54_56, ↓gp54_57, ↓gp54_58, ↓gp54_59, ↓gp54_60, ↓gp54_61, ↓gp54_62, ↓gp54_65, ↓gp54_66, ↓gp54_67, ↓gp54_68, ↓gp54_69, ↓gp54_70, ↓gp54_71, ↓gp54_73, ↓gp54_74, ↓gp54_75, ↓gp54_76, ↓gp54_84, ↓gp54_85, ↓gp54_87, ↓gp54_88, ↓xr59, kr59, ↓xr67, kr67, ↓xr75, kr75, ↓xr82, kr82, ↓xr89, kr89, ↓xr102, kr102, ↓xr115, kr115, ↓xr276, kr276, ↓xr437, kr437, ↓xr444, kr444, ↓xr453, kr453, ↓xr536, kr536, ↓xr553, kr553, hs0, hw0, hs1, hw1, hs2, hw2, hs3, hw3, hs4, hw4, hs5, hw5, hs6, hw6, hs7, hw7, hs8, hw8, hs9, hw9, hs10, hw10, hs11, hw11, hs12, hw12, hs13, hw13, hs14, hw14, hs15, hw15, hs16, hw16, hs17, hw17, hs18, hw18, hs19, hw19, hs20, hw20, hs21, hw21, hs22, hw22, hs23, hw23, hs25, hw25, hs26, hw26, hs27, hw27, hs28, hw28, hs9b, hw9b, hs10b, hw10b, kd0, kd20, kd21, kd22, kd23, kd24, kd25, kd26, kd27, kd28, kd29, kd30, kd31, kd32, kd33, kd34, kd35, kd36, kd37, kd38, kd39, kd40, kd41, kd42, kd54, kd55, kd56, kd57, kd58, kd59, kd67, kd75, kd82, kd89, kd102, kd115, kd276, kd437, kd444, kd451, kd452, kd453, kd534, kd535, kd536, kd553, kd557, kd558, kd559, kd560, kd561, ↓xgI_u, ↓xpI_u, ↓xaI_u, ↓xsI_u, ↓xrk_u, ↓xrk0_u, ↓xob_v, ↓xmb_v, ↓xth_v, ↓xth_x, ↓jn_u, ↓xlen_u, ↓xaL_u, ↓xsL_u, ↓xbl_0, ↓xbl_1, eq_self, inb_n, inb_d, Sh_PI, Sh_PL, dk_PI, dk_PL, dr_PI, dr_PL, ↓reduceIte, Int32.reduceLE, Int32.reduceLT, Int32.reduceToNatClampNeg, Nat.reduceLT, Nat.reduceLeDiff, Nat.reduceEqDiff, Nat.reduceAdd, Nat.reduceMul, i_geT, if_true, c1.1.1, q1, q2, hs6, q3]
    rw [show x = _ from e]
  · intro f i ⟨x, M1⟩ hi ⟨e, hf⟩ hn
    have c1 := cinv_s hC hf
    have h99 := i_geF hi (by omega)
    obtain ⟨M2, u, f2⟩ := c_laughBy (t := tpe (aT A) p 1) (g := aNow A p) (m := Int32.ofNat i) c1.e c1.1.2.2.2.2.1 hj hp
    have hf2 := hf.t0 (f2.mono (S' := cSc b) (fun a k q => Or.inr (Or.inl q)) (fun _ _ q => q) (Nat.le_refl _) (Nat.le_refl _))
    obtain ⟨q, q1, q2, q3, q4, -⟩ := c_personOf c1.1.1 c1.1.2.1 hp
    have r1 := c1.1.2.2.2.2.1.2.1 p hp7
    show ∃ M3, L_X1_well_19 b (Int32.ofNat j) (Int32.ofNat p) _ _ (f + 1) x (Int32.ofNat i) M1 = _ ∧ _
    simp -implicitDefEqProofs only [L_X1_well_19, ↓gp0_2, ↓gp0_3, ↓gp0_4, ↓gp0_5, ↓gp0_6, ↓gp0_7, ↓gp0_8, ↓gp0_9, ↓gp0_10, ↓gp0_18, ↓gp0_19, ↓gp0_20, ↓gp0_22, ↓gp23_43, ↓gp23_32, ↓gp23_33, ↓gp23_34, ↓gp23_35, ↓gp23_36, ↓gp29_43, ↓gp29_32, ↓gp29_33, ↓gp29_34, ↓gp29_35, ↓gp29_36, ↓gp54_53, ↓gp54_54, ↓gp54_55, ↓gp54_56, ↓gp54_57, ↓gp54_58, ↓gp54_59, ↓gp54_60, ↓gp54_61, ↓gp54_62, ↓gp54_65, ↓gp54_66, ↓gp54_67, ↓gp54_68, ↓gp54_69, ↓gp54_70, ↓gp54_71, ↓gp54_73, ↓gp54_74, ↓gp54_75, ↓gp54_76, ↓gp54_84, ↓gp54_85, ↓gp54_87, ↓gp54_88, ↓xr59, kr59, ↓xr67, kr67, ↓xr75, kr75, ↓xr82, kr82, ↓xr89, kr89, ↓xr102, kr102, ↓xr115, kr115, ↓xr276, kr276, ↓xr437, kr437, ↓xr444, kr444, ↓xr453, kr453, ↓xr536, kr536, ↓xr553, kr553, hs0, hw0, hs1, hw1, hs2, hw2, hs3, hw3, hs4, hw4, hs5, hw5, hs6, hw6, hs7, hw7, hs8, hw8, hs9, hw9, hs10, hw10, hs11, hw11, hs12, hw12, hs13, hw13, hs14, hw14, hs15, hw15, hs16, hw16, hs17, hw17, hs18, hw18, hs19, hw19, hs20, hw20, hs21, hw21, hs22, hw22, hs23, hw23, hs25, hw25, hs26, hw26, hs27, hw27, hs28, hw28, hs9b, hw9b, hs10b, hw10b, kd0, kd20, kd21, kd22, kd23, kd24, kd25, kd26, kd27, kd28, kd29, kd30, kd31, kd32, kd33, kd34, kd35, kd36, kd37, kd38, kd39, kd40, kd41, kd42, kd54, kd55, kd56, kd57, kd58, kd59, kd67, kd75, kd82, kd89, kd102, kd115, kd276, kd437, kd444, kd451, kd452, kd453, kd534, kd535, kd536, kd553, kd557, kd558, kd559, kd560, kd561, ↓xgI_u, ↓xpI_u, ↓xaI_u, ↓xsI_u, ↓xrk_u, ↓xrk0_u, ↓xob_v, ↓xmb_v, ↓xth_v, ↓xth_x, ↓jn_u, ↓xlen_u, ↓xaL_u, ↓xsL_u, ↓xbl_0, ↓xbl_1, eq_self, inb_n, inb_d, Sh_PI, Sh_PL, dk_PI, dk_PL, dr_PI, dr_PL, ↓reduceIte, Int32.reduceLE, Int32.reduceLT, Int32.reduceToNatClampNeg, Nat.reduceLT, Nat.reduceLeDiff, Nat.reduceEqDiff, Nat.reduceAdd, Nat.reduceMul, h99, if_false, c1.1.1, q1, q2, hs6, q4, hp7, i_nat (show p < 2147483648 by omega), r1, u, i_succ]
    refine hn (_, M2) ⟨?_, hf2⟩
    show x + _ = welS A j p i + _
    rw [show x = _ from e]; rfl
theorem T_until {j p : Nat} {y : Int32} (hT : TInv b M A) (hj : j < tJ (aT A)) (hp : p < tP (aT A)) : ∃ M2, m_X10_untilNone M (b + 54) (Int32.ofNat j) (Int32.ofNat p) y = some (if y = 0 then Int32.ofNat (lstN A j p 99) else itr (fun k s => s + lstL A j p k * tpe (aT A) p 0) 0 (lstN A j p 99), M2) ∧ fr (tSc b) nz 0 0 M M2 := by
  have o1 := hT.1.ok.1.1
  have hp7 : p < 7 := by omega
  have hp79 : p < 79 := by omega
  simp -implicitDefEqProofs only [m_X10_untilNone, jn_u]
  refine lpx (E := fun x => ∃ M1, x = some (if y = 0 then Int32.ofNat (lstN A j p 99) else itr (fun k s => s + lstL A j p k * tpe (aT A) p 0) 0 (lstN A j p 99), M1) ∧ fr (tSc b) nz 0 0 M M1) (fun f i (s : Int32 × dwSt) => L_X10_untilNone_6 (b + 54) (Int32.ofNat j) (Int32.ofNat p) y (fun (y1 : Int32) (y2 : Int32) (M3 : dwSt) => if y = 0 then some (y1, M3) else some (y2, M3)) (fun (y4 : Int32) (y5 : Int32) (M6 : dwSt) => if y = 0 then some (y4, M6) else some (y5, M6)) f (Int32.ofNat i) s.1 s.2) 99 (fun i s => lstN A j p i = i ∧ s.1 = itr (fun k s => s + lstL A j p k * tpe (aT A) p 0) 0 i ∧ fr (tSc b) nz 0 0 M s.2) ?_ ?_ 1000000 0 (0, M) (by omega) (by omega) ⟨rfl, rfl, fr.refl M⟩
  · intro f ⟨x, M1⟩ ⟨e, ex, hf⟩
    refine ⟨M1, ?_, hf⟩
    show L_X10_untilNone_6 (b + 54) (Int32.ofNat j) (Int32.ofNat p) y _ _ (f + 1) _ x M1 = _
    rw [L_X10_untilNone_6, if_pos (by decide), e, show x = _ from ex]
    by_cases hy : y = 0
    · rw [if_pos hy, if_pos hy]
    · rw [if_neg hy, if_neg hy]
  · intro f i ⟨x, M1⟩ hi ⟨e, ex, hf⟩ hn
    have c1 := tinv_s hT hf
    have h99 := i_geF hi (by omega)
    obtain ⟨M2, u, f2⟩ := t_laughWith (t := tpe (aT A) p 1) (g := aNow A p) (m := Int32.ofNat i) c1.e (kd534 c1.1.1) hj hp
    rw [c1.1.2.2.2.2.1] at u
    have hf2 := hf.t0 (f2.mono (S' := tSc b) (fun a k q => by unfold sKn at q; unfold tSc; omega) (fun _ _ q => q) (Nat.le_refl _) (Nat.le_refl _))
    have c2 := tinv_s hT hf2
    have e1 := c1.1.2.1.2.2.2.2.2.1 p 1 hp (by omega)
    have e0 := c2.1.2.1.2.2.2.2.2.1 p 0 hp (by omega)
    show ∃ M3, L_X10_untilNone_6 (b + 54) (Int32.ofNat j) (Int32.ofNat p) y _ _ (f + 1) (Int32.ofNat i) x M1 = _ ∧ _
    rw [L_X10_untilNone_6, if_neg (show ¬ (99 : Int32) ≤ Int32.ofNat i from fun q => (h99 ▸ q : False))]
    simp only [↓gp0_2, ↓gp0_3, ↓gp0_4, ↓gp0_5, ↓gp0_6, ↓gp0_7, ↓gp0_8, ↓gp0_9, ↓gp0_10, ↓gp0_18, ↓gp0_19, ↓gp0_20, ↓gp0_22, ↓gp23_43, ↓gp23_32, ↓gp23_33, ↓gp23_34, ↓gp23_35, ↓gp23_36, ↓gp29_43, ↓gp29_32, ↓gp29_33, ↓gp29_34, ↓gp29_35, ↓gp29_36, ↓gp54_53, ↓gp54_54, ↓gp54_55, ↓gp54_56, ↓gp54_57, ↓gp54_58, ↓gp54_59, ↓gp54_60, ↓gp54_61, ↓gp54_62, ↓gp54_65, ↓gp54_66, ↓gp54_67, ↓gp54_68, ↓gp54_69, ↓gp54_70, ↓gp54_71, ↓gp54_73, ↓gp54_74, ↓gp54_75, ↓gp54_76, ↓gp54_84, ↓gp54_85, ↓gp54_87, ↓gp54_88, ↓xr59, kr59, ↓xr67, kr67, ↓xr75, kr75, ↓xr82, kr82, ↓xr89, kr89, ↓xr102, kr102, ↓xr115, kr115, ↓xr276, kr276, ↓xr437, kr437, ↓xr444, kr444, ↓xr453, kr453, ↓xr536, kr536, ↓xr553, kr553, hs0, hw0, hs1, hw1, hs2, hw2, hs3, hw3, hs4, hw4, hs5, hw5, hs6, hw6, hs7, hw7, hs8, hw8, hs9, hw9, hs10, hw10, hs11, hw11, hs12, hw12, hs13, hw13, hs14, hw14, hs15, hw15, hs16, hw16, hs17, hw17, hs18, hw18, hs19, hw19, hs20, hw20, hs21, hw21, hs22, hw22, hs23, hw23, hs25, hw25, hs26, hw26, hs27, hw27, hs28, hw28, hs9b, hw9b, hs10b, hw10b, kd0, kd20, kd21, kd22, kd23, kd24, kd25, kd26, kd27, kd28, kd29, kd30, kd31, kd32, kd33, kd34, kd35, kd36, kd37, kd38, kd39, kd40, kd41, kd42, kd54, kd55, kd56, kd57, kd58, kd59, kd67, kd75, kd82, kd89, kd102, kd115, kd276, kd437, kd444, kd451, kd452, kd453, kd534, kd535, kd536, kd553, kd557, kd558, kd559, kd560, kd561, ↓xgI_u, ↓xpI_u, ↓xaI_u, ↓xsI_u, ↓xrk_u, ↓xrk0_u, ↓xob_v, ↓xmb_v, ↓xth_v, ↓xth_x, ↓jn_u, ↓xlen_u, ↓xaL_u, ↓xsL_u, ↓xbl_0, ↓xbl_1, eq_self, inb_n, inb_d, Sh_PI, Sh_PL, dk_PI, dk_PL, dr_PI, dr_PL, ↓reduceIte, Int32.reduceLE, Int32.reduceLT, Int32.reduceToNatClampNeg, Nat.reduceLT, Nat.reduceLeDiff, Nat.reduceEqDiff, Nat.reduceAdd, Nat.reduceMul, c1.1.1, c2.1.1, hp7, hp79, x_o0, i_nat (show p < 2147483648 by omega), e1, e0, c1.1.2.2.2.2.1, u]
    by_cases h0 : lstL A j p i = 0
    · rw [if_pos (show laughS _ _ _ _ _ _ _ _ = (0 : Int32) from h0)]
      refine ⟨M2, ?_, hf2⟩
      rw [lstN_s e h0 99 (by omega), show x = _ from ex]
      by_cases hy : y = 0
      · rw [if_pos hy, if_pos hy]
      · rw [if_neg hy, if_neg hy]
    · rw [if_neg (show ¬ laughS _ _ _ _ _ _ _ _ = (0 : Int32) from h0), i_succ]
      refine hn (_, M2) ⟨lstN_n e h0, ?_, hf2⟩
      show x + _ = _
      rw [← itr_s, show x = _ from ex]; rfl
theorem T_lasts {j p : Nat} (hT : TInv b M A) (hj : j < tJ (aT A)) (hp : p < tP (aT A)) : ∃ M2, m_X10_lasts M (b + 54) (Int32.ofNat j) (Int32.ofNat p) = some (Int32.ofNat (lstN A j p 99), M2) ∧ fr (tSc b) nz 0 0 (dwPI M (b + 54) 44 0) M2 := by
  obtain ⟨hT0, f0, z0⟩ := tinv_z hT
  obtain ⟨M2, e, f⟩ := T_until (y := 0) hT0 hj hp
  rw [if_pos rfl] at e
  refine ⟨M2, ?_, f⟩
  simp -implicitDefEqProofs only [m_X10_lasts, ↓gp0_2, ↓gp0_3, ↓gp0_4, ↓gp0_5, ↓gp0_6, ↓gp0_7, ↓gp0_8, ↓gp0_9, ↓gp0_10, ↓gp0_18, ↓gp0_19, ↓gp0_20, ↓gp0_22, ↓gp23_43, ↓gp23_32, ↓gp23_33, ↓gp23_34, ↓gp23_35, ↓gp23_36, ↓gp29_43, ↓gp29_32, ↓gp29_33, ↓gp29_34, ↓gp29_35, ↓gp29_36, ↓gp54_53, ↓gp54_54, ↓gp54_55, ↓gp54_56, ↓gp54_57, ↓gp54_58, ↓gp54_59, ↓gp54_60, ↓gp54_61, ↓gp54_62, ↓gp54_65, ↓gp54_66, ↓gp54_67, ↓gp54_68, ↓gp54_69, ↓gp54_70, ↓gp54_71, ↓gp54_73, ↓gp54_74, ↓gp54_75, ↓gp54_76, ↓gp54_84, ↓gp54_85, ↓gp54_87, ↓gp54_88, ↓xr59, kr59, ↓xr67, kr67, ↓xr75, kr75, ↓xr82, kr82, ↓xr89, kr89, ↓xr102, kr102, ↓xr115, kr115, ↓xr276, kr276, ↓xr437, kr437, ↓xr444, kr444, ↓xr453, kr453, ↓xr536, kr536, ↓xr553, kr553, hs0, hw0, hs1, hw1, hs2, hw2, hs3, hw3, hs4, hw4, hs5, hw5, hs6, hw6, hs7, hw7, hs8, hw8, hs9, hw9, hs10, hw10, hs11, hw11, hs12, hw12, hs13, hw13, hs14, hw14, hs15, hw15, hs16, hw16, hs17, hw17, hs18, hw18, hs19, hw19, hs20, hw20, hs21, hw21, hs22, hw22, hs23, hw23, hs25, hw25, hs26, hw26, hs27, hw27, hs28, hw28, hs9b, hw9b, hs10b, hw10b, kd0, kd20, kd21, kd22, kd23, kd24, kd25, kd26, kd27, kd28, kd29, kd30, kd31, kd32, kd33, kd34, kd35, kd36, kd37, kd38, kd39, kd40, kd41, kd42, kd54, kd55, kd56, kd57, kd58, kd59, kd67, kd75, kd82, kd89, kd102, kd115, kd276, kd437, kd444, kd451, kd452, kd453, kd534, kd535, kd536, kd553, kd557, kd558, kd559, kd560, kd561, ↓xgI_u, ↓xpI_u, ↓xaI_u, ↓xsI_u, ↓xrk_u, ↓xrk0_u, ↓xob_v, ↓xmb_v, ↓xth_v, ↓xth_x, ↓jn_u, ↓xlen_u, ↓xaL_u, ↓xsL_u, ↓xbl_0, ↓xbl_1, eq_self, inb_n, inb_d, Sh_PI, Sh_PL, dk_PI, dk_PL, dr_PI, dr_PL, ↓reduceIte, Int32.reduceLE, Int32.reduceLT, Int32.reduceToNatClampNeg, Nat.reduceLT, Nat.reduceLeDiff, Nat.reduceEqDiff, Nat.reduceAdd, Nat.reduceMul, hT.1.1, t_noneT hT0.1.1 hT0.1.2.1 hj hp, t_bad0 hT0.1.1 z0, e]
theorem T_well {j p : Nat} (hT : TInv b M A) (hj : j < tJ (aT A)) (hp : p < tP (aT A)) : ∃ M2, m_X10_well M (b + 54) (Int32.ofNat j) (Int32.ofNat p) = some (welS A j p (lstN A j p 99) * tpe (aT A) p 0, M2) ∧ fr (tSc b) nz 0 0 (dwPI M (b + 54) 44 0) M2 := by
  obtain ⟨hT0, f0, z0⟩ := tinv_z hT
  obtain ⟨M2, e, f⟩ := T_until (y := 1) hT0 hj hp
  rw [if_neg (by decide), wel_mul] at e
  refine ⟨M2, ?_, f⟩
  simp -implicitDefEqProofs only [m_X10_well, ↓gp0_2, ↓gp0_3, ↓gp0_4, ↓gp0_5, ↓gp0_6, ↓gp0_7, ↓gp0_8, ↓gp0_9, ↓gp0_10, ↓gp0_18, ↓gp0_19, ↓gp0_20, ↓gp0_22, ↓gp23_43, ↓gp23_32, ↓gp23_33, ↓gp23_34, ↓gp23_35, ↓gp23_36, ↓gp29_43, ↓gp29_32, ↓gp29_33, ↓gp29_34, ↓gp29_35, ↓gp29_36, ↓gp54_53, ↓gp54_54, ↓gp54_55, ↓gp54_56, ↓gp54_57, ↓gp54_58, ↓gp54_59, ↓gp54_60, ↓gp54_61, ↓gp54_62, ↓gp54_65, ↓gp54_66, ↓gp54_67, ↓gp54_68, ↓gp54_69, ↓gp54_70, ↓gp54_71, ↓gp54_73, ↓gp54_74, ↓gp54_75, ↓gp54_76, ↓gp54_84, ↓gp54_85, ↓gp54_87, ↓gp54_88, ↓xr59, kr59, ↓xr67, kr67, ↓xr75, kr75, ↓xr82, kr82, ↓xr89, kr89, ↓xr102, kr102, ↓xr115, kr115, ↓xr276, kr276, ↓xr437, kr437, ↓xr444, kr444, ↓xr453, kr453, ↓xr536, kr536, ↓xr553, kr553, hs0, hw0, hs1, hw1, hs2, hw2, hs3, hw3, hs4, hw4, hs5, hw5, hs6, hw6, hs7, hw7, hs8, hw8, hs9, hw9, hs10, hw10, hs11, hw11, hs12, hw12, hs13, hw13, hs14, hw14, hs15, hw15, hs16, hw16, hs17, hw17, hs18, hw18, hs19, hw19, hs20, hw20, hs21, hw21, hs22, hw22, hs23, hw23, hs25, hw25, hs26, hw26, hs27, hw27, hs28, hw28, hs9b, hw9b, hs10b, hw10b, kd0, kd20, kd21, kd22, kd23, kd24, kd25, kd26, kd27, kd28, kd29, kd30, kd31, kd32, kd33, kd34, kd35, kd36, kd37, kd38, kd39, kd40, kd41, kd42, kd54, kd55, kd56, kd57, kd58, kd59, kd67, kd75, kd82, kd89, kd102, kd115, kd276, kd437, kd444, kd451, kd452, kd453, kd534, kd535, kd536, kd553, kd557, kd558, kd559, kd560, kd561, ↓xgI_u, ↓xpI_u, ↓xaI_u, ↓xsI_u, ↓xrk_u, ↓xrk0_u, ↓xob_v, ↓xmb_v, ↓xth_v, ↓xth_x, ↓jn_u, ↓xlen_u, ↓xaL_u, ↓xsL_u, ↓xbl_0, ↓xbl_1, eq_self, inb_n, inb_d, Sh_PI, Sh_PL, dk_PI, dk_PL, dr_PI, dr_PL, ↓reduceIte, Int32.reduceLE, Int32.reduceLT, Int32.reduceToNatClampNeg, Nat.reduceLT, Nat.reduceLeDiff, Nat.reduceEqDiff, Nat.reduceAdd, Nat.reduceMul, hT.1.1, t_noneT hT0.1.1 hT0.1.2.1 hj hp, t_bad0 hT0.1.1 z0, e]
/-! what one laughs at -/
theorem T_isTaste {p : Nat} {t g : Int32} (hT : TInv b M A) (hp : p < tP (aT A)) : ∃ M2, m_X10_isTaste M (b + 54) (Int32.ofNat p) t g = some (if fitB A p t g = true then 1 else 0, M2) ∧ fr (sKn b) nz 0 0 M M2 := by
  have ob := hT.1.ok.2.1
  have o2 := hT.1.ok.1.2.1
  have o6 := ob.1
  simp -implicitDefEqProofs only [m_X10_isTaste, jn_u]
  refine lpx (E := fun x => ∃ M1, x = some (if fitB A p t g = true then 1 else 0, M1) ∧ fr (sKn b) nz 0 0 M M1) (fun f i (M1 : dwSt) => L_X10_isTaste_3 (b + 54) (Int32.ofNat p) t g (fun (M1 : dwSt) => some ((0 : Int32), M1)) (fun (M2 : dwSt) => some ((1 : Int32), M2)) f (Int32.ofNat i) M1) (aBk A).1 (fun i M1 => itr (fun k x => x && (laughS (aT A) (aLw A) (aNow A) ((aBk A).2 k 0).toNatClampNeg p t g 0 == (aBk A).2 k 1)) true i = true ∧ fr (sKn b) nz 0 0 M M1) ?_ ?_ 1000000 0 M (by omega) (by omega) ⟨rfl, fr.refl M⟩
  · intro f M1 ⟨e, hf⟩
    have c1 := tinv_s hT (sKn_s hf)
    refine ⟨M1, ?_, hf⟩
    simp -implicitDefEqProofs only [L_X10_isTaste_3, ↓gp0_2, ↓gp0_3, ↓gp0_4, ↓gp0_5, ↓gp0_6, ↓gp0_7, ↓gp0_8, ↓gp0_9, ↓gp0_10, ↓gp0_18, ↓gp0_19, ↓gp0_20, ↓gp0_22, ↓gp23_43, ↓gp23_32, ↓gp23_33, ↓gp23_34, ↓gp23_35, ↓gp23_36, ↓gp29_43, ↓gp29_32, ↓gp29_33, ↓gp29_34, ↓gp29_35, ↓gp29_36, ↓gp54_53, ↓gp54_54, ↓gp54_55, ↓gp54_56, ↓gp54_57, ↓gp54_58, ↓gp54_59, ↓gp54_60, ↓gp54_61, ↓gp54_62, ↓gp54_65, ↓gp54_66, ↓gp54_67, ↓gp54_68, ↓gp54_69, ↓gp54_70, ↓gp54_71, ↓gp54_73, ↓gp54_74, ↓gp54_75, ↓gp54_76, ↓gp54_84, ↓gp54_85, ↓gp54_87, ↓gp54_88, ↓xr59, kr59, ↓xr67, kr67, ↓xr75, kr75, ↓xr82, kr82, ↓xr89, kr89, ↓xr102, kr102, ↓xr115, kr115, ↓xr276, kr276, ↓xr437, kr437, ↓xr444, kr444, ↓xr453, kr453, ↓xr536, kr536, ↓xr553, kr553, hs0, hw0, hs1, hw1, hs2, hw2, hs3, hw3, hs4, hw4, hs5, hw5, hs6, hw6, hs7, hw7, hs8, hw8, hs9, hw9, hs10, hw10, hs11, hw11, hs12, hw12, hs13, hw13, hs14, hw14, hs15, hw15, hs16, hw16, hs17, hw17, hs18, hw18, hs19, hw19, hs20, hw20, hs21, hw21, hs22, hw22, hs23, hw23, hs25, hw25, hs26, hw26, hs27, hw27, hs28, hw28, hs9b, hw9b, hs10b, hw10b, kd0, kd20, kd21, kd22, kd23, kd24, kd25, kd26, kd27, kd28, kd29, kd30, kd31, kd32, kd33, kd34, kd35, kd36, kd37, kd38, kd39, kd40, kd41, kd42, kd54, kd55, kd56, kd57, kd58, kd59, kd67, kd75, kd82, kd89, kd102, kd115, kd276, kd437, kd444, kd451, kd452, kd453, kd534, kd535, kd536, kd553, kd557, kd558, kd559, kd560, kd561, ↓xgI_u, ↓xpI_u, ↓xaI_u, ↓xsI_u, ↓xrk_u, ↓xrk0_u, ↓xob_v, ↓xmb_v, ↓xth_v, ↓xth_x, ↓jn_u, ↓xlen_u, ↓xaL_u, ↓xsL_u, ↓xbl_0, ↓xbl_1, eq_self, inb_n, inb_d, Sh_PI, Sh_PL, dk_PI, dk_PL, dr_PI, dr_PL, ↓reduceIte, Int32.reduceLE, Int32.reduceLT, Int32.reduceToNatClampNeg, Nat.reduceLT, Nat.reduceLeDiff, Nat.reduceEqDiff, Nat.reduceAdd, Nat.reduceMul, c1.1.1, c1.1.2.2.2.1.1, i_geT, if_true]
    rw [if_pos (show fitB A p t g = true from e)]
  · intro f i M1 hi ⟨e, hf⟩ hn
    have c1 := tinv_s hT (sKn_s hf)
    obtain ⟨j, hj, e0, -, -⟩ := ob.2.1 i hi
    obtain ⟨M2, u, f2⟩ := t_laughWith (t := t) (g := g) (m := 0) c1.e (kd534 c1.1.1) hj hp
    rw [c1.1.2.2.2.2.1] at u
    have hf2 := hf.t0 f2
    have c2 := tinv_s hT (sKn_s hf2)
    have a0 := (c1.1.2.2.2.1.2 i 0 hi (by omega)).trans e0
    have a1 := c2.1.2.2.2.1.2 i 1 hi (by omega)
    have hi6 : i < 6 := by omega
    have es : itr (fun k x => x && (laughS (aT A) (aLw A) (aNow A) ((aBk A).2 k 0).toNatClampNeg p t g 0 == (aBk A).2 k 1)) true (i + 1) = (laughS (aT A) (aLw A) (aNow A) j p t g 0 == (aBk A).2 i 1) := by
      show (_ && _) = _
      rw [e, e0, i_nat (by omega), Bool.true_and]
    simp -implicitDefEqProofs only [L_X10_isTaste_3, ↓gp0_2, ↓gp0_3, ↓gp0_4, ↓gp0_5, ↓gp0_6, ↓gp0_7, ↓gp0_8, ↓gp0_9, ↓gp0_10, ↓gp0_18, ↓gp0_19, ↓gp0_20, ↓gp0_22, ↓gp23_43, ↓gp23_32, ↓gp23_33, ↓gp23_34, ↓gp23_35, ↓gp23_36, ↓gp29_43, ↓gp29_32, ↓gp29_33, ↓gp29_34, ↓gp29_35, ↓gp29_36, ↓gp54_53, ↓gp54_54, ↓gp54_55, ↓gp54_56, ↓gp54_57, ↓gp54_58, ↓gp54_59, ↓gp54_60, ↓gp54_61, ↓gp54_62, ↓gp54_65, ↓gp54_66, ↓gp54_67, ↓gp54_68, ↓gp54_69, ↓gp54_70, ↓gp54_71, ↓gp54_73, ↓gp54_74, ↓gp54_75, ↓gp54_76, ↓gp54_84, ↓gp54_85, ↓gp54_87, ↓gp54_88, ↓xr59, kr59, ↓xr67, kr67, ↓xr75, kr75, ↓xr82, kr82, ↓xr89, kr89, ↓xr102, kr102, ↓xr115, kr115, ↓xr276, kr276, ↓xr437, kr437, ↓xr444, kr444, ↓xr453, kr453, ↓xr536, kr536, ↓xr553, kr553, hs0, hw0, hs1, hw1, hs2, hw2, hs3, hw3, hs4, hw4, hs5, hw5, hs6, hw6, hs7, hw7, hs8, hw8, hs9, hw9, hs10, hw10, hs11, hw11, hs12, hw12, hs13, hw13, hs14, hw14, hs15, hw15, hs16, hw16, hs17, hw17, hs18, hw18, hs19, hw19, hs20, hw20, hs21, hw21, hs22, hw22, hs23, hw23, hs25, hw25, hs26, hw26, hs27, hw27, hs28, hw28, hs9b, hw9b, hs10b, hw10b, kd0, kd20, kd21, kd22, kd23, kd24, kd25, kd26, kd27, kd28, kd29, kd30, kd31, kd32, kd33, kd34, kd35, kd36, kd37, kd38, kd39, kd40, kd41, kd42, kd54, kd55, kd56, kd57, kd58, kd59, kd67, kd75, kd82, kd89, kd102, kd115, kd276, kd437, kd444, kd451, kd452, kd453, kd534, kd535, kd536, kd553, kd557, kd558, kd559, kd560, kd561, ↓xgI_u, ↓xpI_u, ↓xaI_u, ↓xsI_u, ↓xrk_u, ↓xrk0_u, ↓xob_v, ↓xmb_v, ↓xth_v, ↓xth_x, ↓jn_u, ↓xlen_u, ↓xaL_u, ↓xsL_u, ↓xbl_0, ↓xbl_1, eq_self, inb_n, inb_d, Sh_PI, Sh_PL, dk_PI, dk_PL, dr_PI, dr_PL, ↓reduceIte, Int32.reduceLE, Int32.reduceLT, Int32.reduceToNatClampNeg, Nat.reduceLT, Nat.reduceLeDiff, Nat.reduceEqDiff, Nat.reduceAdd, Nat.reduceMul, c1.1.1, c2.1.1, c1.1.2.2.2.1.1, i_geF hi (by omega), if_false, hi6, a0, a1, u, i_succ]
    by_cases hc : laughS (aT A) (aLw A) (aNow A) j p t g 0 = (aBk A).2 i 1
    · rw [if_pos hc]
      exact hn M2 ⟨by rw [es, hc]; exact beq_self_eq_true _, hf2⟩
    · rw [if_neg hc]
      refine ⟨M2, ?_, hf2⟩
      have : fitB A p t g = false := and_f (n := i + 1) (by rw [es]; exact beq_eq_false_iff_ne.mpr hc) _ (by omega)
      rw [this]; rfl
theorem C_isFit {p : Nat} {t g : Int32} (hC : CInv b w M A) (hp : p < tP (aT A)) : ∃ M1, m_X1_isFit M b (Int32.ofNat p) t g = some (if fitB A p t g = true then 1 else 0, M1) ∧ fr (sFa b) nz 0 0 M M1 := by
  have ob := hC.1.ok.2.1
  have o2 := hC.1.ok.1.2.1
  simp -implicitDefEqProofs only [m_X1_isFit, jn_u]
  refine lpx (E := fun x => ∃ M1, x = some (if fitB A p t g = true then 1 else 0, M1) ∧ fr (sFa b) nz 0 0 M M1) (fun f i (M1 : dwSt) => L_X1_isFit_3 b (Int32.ofNat p) t g (fun (M1 : dwSt) => some ((0 : Int32), M1)) (fun (M2 : dwSt) => some ((1 : Int32), M2)) f (Int32.ofNat i) M1) (tJ (aT A)) (fun i M1 => (∀ j, j < i → bookS (aBk A) j = -1 ∨ laughS (aT A) (aLw A) (aNow A) j p t g 0 = bookS (aBk A) j) ∧ fr (sFa b) nz 0 0 M M1) ?_ ?_ 1000000 0 M (by omega) (by omega) ⟨fun j h => by omega, fr.refl M⟩
  · intro f M1 ⟨e, hf⟩
    have c1 := cinv_s hC (hf.mono (S' := cSc b) (fun a k q => Or.inr (Or.inl q)) (fun _ _ q => q) (Nat.le_refl _) (Nat.le_refl _))
    refine ⟨M1, ?_, hf⟩
    simp -implicitDefEqProofs only [L_X1_isFit_3, ↓gp0_2, ↓gp0_3, ↓gp0_4, ↓gp0_5, ↓gp0_6, ↓gp0_7, ↓gp0_8, ↓gp0_9, ↓gp0_10, ↓gp0_18, ↓gp0_19, ↓gp0_20, ↓gp0_22, ↓gp23_43, ↓gp23_32, ↓gp23_33, ↓gp23_34, ↓gp23_35, ↓gp23_36, ↓gp29_43, ↓gp29_32, ↓gp29_33, ↓gp29_34, ↓gp29_35, ↓gp29_36, ↓gp54_53, ↓gp54_54, ↓gp54_55, ↓gp54_56, ↓gp54_57, ↓gp54_58, ↓gp54_59, ↓gp54_60, ↓gp54_61, ↓gp54_62, ↓gp54_65, ↓gp54_66, ↓gp54_67, ↓gp54_68, ↓gp54_69, ↓gp54_70, ↓gp54_71, ↓gp54_73, ↓gp54_74, ↓gp54_75, ↓gp54_76, ↓gp54_84, ↓gp54_85, ↓gp54_87, ↓gp54_88, ↓xr59, kr59, ↓xr67, kr67, ↓xr75, kr75, ↓xr82, kr82, ↓xr89, kr89, ↓xr102, kr102, ↓xr115, kr115, ↓xr276, kr276, ↓xr437, kr437, ↓xr444, kr444, ↓xr453, kr453, ↓xr536, kr536, ↓xr553, kr553, hs0, hw0, hs1, hw1, hs2, hw2, hs3, hw3, hs4, hw4, hs5, hw5, hs6, hw6, hs7, hw7, hs8, hw8, hs9, hw9, hs10, hw10, hs11, hw11, hs12, hw12, hs13, hw13, hs14, hw14, hs15, hw15, hs16, hw16, hs17, hw17, hs18, hw18, hs19, hw19, hs20, hw20, hs21, hw21, hs22, hw22, hs23, hw23, hs25, hw25, hs26, hw26, hs27, hw27, hs28, hw28, hs9b, hw9b, hs10b, hw10b, kd0, kd20, kd21, kd22, kd23, kd24, kd25, kd26, kd27, kd28, kd29, kd30, kd31, kd32, kd33, kd34, kd35, kd36, kd37, kd38, kd39, kd40, kd41, kd42, kd54, kd55, kd56, kd57, kd58, kd59, kd67, kd75, kd82, kd89, kd102, kd115, kd276, kd437, kd444, kd451, kd452, kd453, kd534, kd535, kd536, kd553, kd557, kd558, kd559, kd560, kd561, ↓xgI_u, ↓xpI_u, ↓xaI_u, ↓xsI_u, ↓xrk_u, ↓xrk0_u, ↓xob_v, ↓xmb_v, ↓xth_v, ↓xth_x, ↓jn_u, ↓xlen_u, ↓xaL_u, ↓xsL_u, ↓xbl_0, ↓xbl_1, eq_self, inb_n, inb_d, Sh_PI, Sh_PL, dk_PI, dk_PL, dr_PI, dr_PL, ↓reduceIte, Int32.reduceLE, Int32.reduceLT, Int32.reduceToNatClampNeg, Nat.reduceLT, Nat.reduceLeDiff, Nat.reduceEqDiff, Nat.reduceAdd, Nat.reduceMul, c1.1.1, c_jokes c1.1.1 c1.1.2.1, i_geT, if_true]
    rw [if_pos ((fit_iff ob o2).mpr e)]
  · intro f i M1 hi ⟨e, hf⟩ hn
    have c1 := cinv_s hC (hf.mono (S' := cSc b) (fun a k q => Or.inr (Or.inl q)) (fun _ _ q => q) (Nat.le_refl _) (Nat.le_refl _))
    have hi6 : i < 6 := by omega
    have b1 := c1.1.2.2.2.1.2 i hi6
    obtain ⟨M2, u, f2⟩ := c_laughBy (t := t) (g := g) (m := 0) c1.e c1.1.2.2.2.2.1 hi hp
    have hf2 := hf.t0 f2
    have c2 := cinv_s hC (hf2.mono (S' := cSc b) (fun a k q => Or.inr (Or.inl q)) (fun _ _ q => q) (Nat.le_refl _) (Nat.le_refl _))
    have b2 := c2.1.2.2.2.1.2 i hi6
    simp -implicitDefEqProofs only [L_X1_isFit_3, ↓gp0_2, ↓gp0_3, ↓gp0_4, ↓gp0_5, ↓gp0_6, ↓gp0_7, ↓gp0_8, ↓gp0_9, ↓gp0_10, ↓gp0_18, ↓gp0_19, ↓gp0_20, ↓gp0_22, ↓gp23_43, ↓gp23_32, ↓gp23_33, ↓gp23_34, ↓gp23_35, ↓gp23_36, ↓gp29_43, ↓gp29_32, ↓gp29_33, ↓gp29_34, ↓gp29_35, ↓gp29_36, ↓gp54_53, ↓gp54_54, ↓gp54_55, ↓gp54_56, ↓gp54_57, ↓gp54_58, ↓gp54_59, ↓gp54_60, ↓gp54_61, ↓gp54_62, ↓gp54_65, ↓gp54_66, ↓gp54_67, ↓gp54_68, ↓gp54_69, ↓gp54_70, ↓gp54_71, ↓gp54_73, ↓gp54_74, ↓gp54_75, ↓gp54_76, ↓gp54_84, ↓gp54_85, ↓gp54_87, ↓gp54_88, ↓xr59, kr59, ↓xr67, kr67, ↓xr75, kr75, ↓xr82, kr82, ↓xr89, kr89, ↓xr102, kr102, ↓xr115, kr115, ↓xr276, kr276, ↓xr437, kr437, ↓xr444, kr444, ↓xr453, kr453, ↓xr536, kr536, ↓xr553, kr553, hs0, hw0, hs1, hw1, hs2, hw2, hs3, hw3, hs4, hw4, hs5, hw5, hs6, hw6, hs7, hw7, hs8, hw8, hs9, hw9, hs10, hw10, hs11, hw11, hs12, hw12, hs13, hw13, hs14, hw14, hs15, hw15, hs16, hw16, hs17, hw17, hs18, hw18, hs19, hw19, hs20, hw20, hs21, hw21, hs22, hw22, hs23, hw23, hs25, hw25, hs26, hw26, hs27, hw27, hs28, hw28, hs9b, hw9b, hs10b, hw10b, kd0, kd20, kd21, kd22, kd23, kd24, kd25, kd26, kd27, kd28, kd29, kd30, kd31, kd32, kd33, kd34, kd35, kd36, kd37, kd38, kd39, kd40, kd41, kd42, kd54, kd55, kd56, kd57, kd58, kd59, kd67, kd75, kd82, kd89, kd102, kd115, kd276, kd437, kd444, kd451, kd452, kd453, kd534, kd535, kd536, kd553, kd557, kd558, kd559, kd560, kd561, ↓xgI_u, ↓xpI_u, ↓xaI_u, ↓xsI_u, ↓xrk_u, ↓xrk0_u, ↓xob_v, ↓xmb_v, ↓xth_v, ↓xth_x, ↓jn_u, ↓xlen_u, ↓xaL_u, ↓xsL_u, ↓xbl_0, ↓xbl_1, eq_self, inb_n, inb_d, Sh_PI, Sh_PL, dk_PI, dk_PL, dr_PI, dr_PL, ↓reduceIte, Int32.reduceLE, Int32.reduceLT, Int32.reduceToNatClampNeg, Nat.reduceLT, Nat.reduceLeDiff, Nat.reduceEqDiff, Nat.reduceAdd, Nat.reduceMul, c1.1.1, c_jokes c1.1.1 c1.1.2.1, i_geF hi (by omega), if_false, hi6, i_nat (show i < 2147483648 by omega), b1, i_succ]
    by_cases hb : bookS (aBk A) i = -1
    · rw [if_pos hb]
      exact hn M1 ⟨fun j hj => by
        by_cases q : j = i
        · subst q; exact Or.inl hb
        · exact e j (by omega), hf⟩
    · rw [if_neg hb]
      simp only [↓gp0_2, ↓gp0_3, ↓gp0_4, ↓gp0_5, ↓gp0_6, ↓gp0_7, ↓gp0_8, ↓gp0_9, ↓gp0_10, ↓gp0_18, ↓gp0_19, ↓gp0_20, ↓gp0_22, ↓gp23_43, ↓gp23_32, ↓gp23_33, ↓gp23_34, ↓gp23_35, ↓gp23_36, ↓gp29_43, ↓gp29_32, ↓gp29_33, ↓gp29_34, ↓gp29_35, ↓gp29_36, ↓gp54_53, ↓gp54_54, ↓gp54_55, ↓gp54_56, ↓gp54_57, ↓gp54_58, ↓gp54_59, ↓gp54_60, ↓gp54_61, ↓gp54_62, ↓gp54_65, ↓gp54_66, ↓gp54_67, ↓gp54_68, ↓gp54_69, ↓gp54_70, ↓gp54_71, ↓gp54_73, ↓gp54_74, ↓gp54_75, ↓gp54_76, ↓gp54_84, ↓gp54_85, ↓gp54_87, ↓gp54_88, ↓xr59, kr59, ↓xr67, kr67, ↓xr75, kr75, ↓xr82, kr82, ↓xr89, kr89, ↓xr102, kr102, ↓xr115, kr115, ↓xr276, kr276, ↓xr437, kr437, ↓xr444, kr444, ↓xr453, kr453, ↓xr536, kr536, ↓xr553, kr553, hs0, hw0, hs1, hw1, hs2, hw2, hs3, hw3, hs4, hw4, hs5, hw5, hs6, hw6, hs7, hw7, hs8, hw8, hs9, hw9, hs10, hw10, hs11, hw11, hs12, hw12, hs13, hw13, hs14, hw14, hs15, hw15, hs16, hw16, hs17, hw17, hs18, hw18, hs19, hw19, hs20, hw20, hs21, hw21, hs22, hw22, hs23, hw23, hs25, hw25, hs26, hw26, hs27, hw27, hs28, hw28, hs9b, hw9b, hs10b, hw10b, kd0, kd20, kd21, kd22, kd23, kd24, kd25, kd26, kd27, kd28, kd29, kd30, kd31, kd32, kd33, kd34, kd35, kd36, kd37, kd38, kd39, kd40, kd41, kd42, kd54, kd55, kd56, kd57, kd58, kd59, kd67, kd75, kd82, kd89, kd102, kd115, kd276, kd437, kd444, kd451, kd452, kd453, kd534, kd535, kd536, kd553, kd557, kd558, kd559, kd560, kd561, ↓xgI_u, ↓xpI_u, ↓xaI_u, ↓xsI_u, ↓xrk_u, ↓xrk0_u, ↓xob_v, ↓xmb_v, ↓xth_v, ↓xth_x, ↓jn_u, ↓xlen_u, ↓xaL_u, ↓xsL_u, ↓xbl_0, ↓xbl_1, eq_self, inb_n, inb_d, Sh_PI, Sh_PL, dk_PI, dk_PL, dr_PI, dr_PL, ↓reduceIte, Int32.reduceLE, Int32.reduceLT, Int32.reduceToNatClampNeg, Nat.reduceLT, Nat.reduceLeDiff, Nat.reduceEqDiff, Nat.reduceAdd, Nat.reduceMul, u, c2.1.1, hi6, i_nat (show i < 2147483648 by omega), b2]
      by_cases hc : laughS (aT A) (aLw A) (aNow A) i p t g 0 = bookS (aBk A) i
      · rw [if_pos hc]
        exact hn M2 ⟨fun j hj => by
          by_cases q : j = i
          · subst q; exact Or.inr hc
          · exact e j (by omega), hf2⟩
      · rw [if_neg hc]
        refine ⟨M2, ?_, hf2⟩
        rw [if_neg (fun q => by
          rcases (fit_iff ob o2).mp q i hi with z | z
          · exact hb z
          · exact hc z)]
end CALL
