/-! A BOOK read: the twin -/
section READ
variable {b : Nat} {M : dwSt} {A : dvA} {ρ : Type} {L : Nat}
/-- the twin's book while it is read -/
def bT (b : Nat) (M : dwSt) (A : dvA) (L J : Nat) (B : Nat × (Nat → Nat → Int32)) (m : Nat) (r : rsP) : Prop := tSt b M A L r ∧ dwI M (b + 58) 1 = Int32.ofNat J ∧ (∀ k i, k < B.1 → i < 2 → dwI M (b + 445 + k) i = B.2 k i) ∧ m < 64 ∧ ∀ j, j < 6 → (m.testBit j = true ↔ ¬ bookS B j = -1)
def sBt (b : Nat) : Nat → Nat → Prop := fun a k => (a = b + 54 ∧ (k = 48 ∨ k = 49 ∨ k = 50)) ∨ (b + 445 ≤ a ∧ a ≤ b + 450)
theorem bT.to {n u J m : Nat} {B : Nat × (Nat → Nat → Int32)} {r r' : rsP} {M1 : dwSt} (h : bT b M A L J B m r) (hB : B.1 ≤ 6) (f : fr (sWr b) nz n u M M1) (k : tSt b M1 A L r') : bT b M1 A L J B m r' := by
  have hn := shN h.1.1.1
  exact ⟨k, (f.i (by omega) (by unfold sWr; omega)).trans h.2.1, fun k i hk hi => (f.i (by omega) (by unfold sWr; omega)).trans (h.2.2.1 k i hk hi), h.2.2.2⟩
theorem t_hasB {m j : Nat} (hm : m < 64) (hj : j < 6) : m_X10_has (Int32.ofNat m) (Int32.ofNat j) = some (if m.testBit j then 1 else 0) := by
  unfold m_X10_has
  have h := has_n m (by omega) j (by omega)
  by_cases c : m.testBit j = true
  · rw [if_pos (h.mpr c), if_pos c]
  · rw [if_neg (fun z => c (h.mp z)), if_neg c]
/-- all of a book read, or what is wrong -/
def boT (b : Nat) (M : dwSt) (A : dvA) (L J : Nat) (R : (Nat × (Nat → Nat → Int32)) ⊕ (Nat × Nat)) (B : Nat × (Nat → Nat → Int32)) : Prop := match R with
  | .inl B' => B = B' ∧ ∃ m p, bT b M A L J B m (.inl p)
  | .inr e => tSt b M A L (.inr e)
theorem t_boL {E : Option ρ → Prop} {K : Int32 → dwSt → Option ρ} {T : dvT} {J : Nat} (hJ : J = tJ T) (hJ6 : tJ T ≤ 6) : ∀ n p f (B : Nat × (Nat → Nat → Int32)) (m : Nat) (M1 : dwSt), L - p ≤ n → n < f → bkR T B → bT b M1 A L J B m (.inl p) → blS (xbN A) L p = p → (∀ B' M2, fr (sBt b) nz 0 0 M1 M2 → boT b M2 A L J (boF (xbN A) L J n B p) B' → E (K (Int32.ofNat B'.1) M2)) → E (L_X10_book_48 (b + 54) K f (Int32.ofNat B.1) (Int32.ofNat m) M1) := by
  intro n
  induction n with
  | zero =>
    intro p f B m M1 h1 h2 hB h hbl hE
    obtain ⟨f', rfl⟩ : ∃ f', f = f' + 1 := ⟨f - 1, by omega⟩
    obtain ⟨g48, g49, gp⟩ := h.1.ok
    have hs := h.1.1.1
    have h46 := h.1.2.1
    have hle := eq_true (show Int32.ofNat L ≤ Int32.ofNat p by rw [show p = L by omega]; exact Int32.le_refl _)
    simp -implicitDefEqProofs only [L_X10_book_48, ↓gp0_2, ↓gp0_3, ↓gp0_4, ↓gp0_5, ↓gp0_6, ↓gp0_7, ↓gp0_8, ↓gp0_9, ↓gp0_10, ↓gp0_18, ↓gp0_19, ↓gp0_20, ↓gp0_22, ↓gp23_43, ↓gp23_32, ↓gp23_33, ↓gp23_34, ↓gp23_35, ↓gp23_36, ↓gp29_43, ↓gp29_32, ↓gp29_33, ↓gp29_34, ↓gp29_35, ↓gp29_36, ↓gp54_53, ↓gp54_54, ↓gp54_55, ↓gp54_56, ↓gp54_57, ↓gp54_58, ↓gp54_59, ↓gp54_60, ↓gp54_61, ↓gp54_62, ↓gp54_65, ↓gp54_66, ↓gp54_67, ↓gp54_68, ↓gp54_69, ↓gp54_70, ↓gp54_71, ↓gp54_73, ↓gp54_74, ↓gp54_75, ↓gp54_76, ↓gp54_84, ↓gp54_85, ↓gp54_87, ↓gp54_88, ↓xr59, kr59, ↓xr67, kr67, ↓xr75, kr75, ↓xr82, kr82, ↓xr89, kr89, ↓xr102, kr102, ↓xr115, kr115, ↓xr276, kr276, ↓xr437, kr437, ↓xr444, kr444, ↓xr453, kr453, ↓xr536, kr536, ↓xr553, kr553, hs0, hw0, hs1, hw1, hs2, hw2, hs3, hw3, hs4, hw4, hs5, hw5, hs6, hw6, hs7, hw7, hs8, hw8, hs9, hw9, hs10, hw10, hs11, hw11, hs12, hw12, hs13, hw13, hs14, hw14, hs15, hw15, hs16, hw16, hs17, hw17, hs18, hw18, hs19, hw19, hs20, hw20, hs21, hw21, hs22, hw22, hs23, hw23, hs25, hw25, hs26, hw26, hs27, hw27, hs28, hw28, hs9b, hw9b, hs10b, hw10b, kd0, kd20, kd21, kd22, kd23, kd24, kd25, kd26, kd27, kd28, kd29, kd30, kd31, kd32, kd33, kd34, kd35, kd36, kd37, kd38, kd39, kd40, kd41, kd42, kd54, kd55, kd56, kd57, kd58, kd59, kd67, kd75, kd82, kd89, kd102, kd115, kd276, kd437, kd444, kd451, kd452, kd453, kd534, kd535, kd536, kd553, kd557, kd558, kd559, kd560, kd561, ↓xgI_u, ↓xpI_u, ↓xaI_u, ↓xsI_u, ↓xrk_u, ↓xrk0_u, ↓xob_v, ↓xmb_v, ↓xth_v, ↓xth_x, ↓jn_u, ↓xlen_u, ↓xaL_u, ↓xsL_u, ↓xbl_0, ↓xbl_1, eq_self, inb_n, inb_d, Sh_PI, Sh_PL, dk_PI, dk_PL, dr_PI, dr_PL, ↓reduceIte, Int32.reduceLE, Int32.reduceLT, Int32.reduceToNatClampNeg, Nat.reduceLT, Nat.reduceLeDiff, Nat.reduceEqDiff, Nat.reduceAdd, Nat.reduceMul, hs, g49, g48, h46, hle, if_true]
    exact hE B M1 (fr.refl M1) ⟨rfl, m, p, h⟩
  | succ n ih =>
    intro p f B m M1 h1 h2 hB h hbl hE
    obtain ⟨f', rfl⟩ : ∃ f', f = f' + 1 := ⟨f - 1, by omega⟩
    obtain ⟨g48, g49, gp⟩ := h.1.ok
    have hs := h.1.1.1
    have hn := shN hs
    have h46 := h.1.2.1
    have hL600 : L ≤ 600 := Nat.le_trans h.1.2.2.1 h.1.1.2.1
    have hB6 := hB.2.1
    by_cases hp : p < L
    · have hle := i_geF hp (show L < 2147483648 by omega)
      have hbad : ∀ M2 B0 (m0 f0 : Nat) e, 0 < f0 → tSt b M2 A L (.inr e) → E (K (Int32.ofNat B0) M2) → E (L_X10_book_48 (b + 54) K f0 (Int32.ofNat B0) (Int32.ofNat m0) M2) := by
        intro M2 B0 m0 f0 e hf k hK
        obtain ⟨f1, rfl⟩ : ∃ f1, f0 = f1 + 1 := ⟨f0 - 1, by omega⟩
        have sh2 := k.1.1
        have h3 := k.bad.2.2
        simp -implicitDefEqProofs only [L_X10_book_48, ↓gp0_2, ↓gp0_3, ↓gp0_4, ↓gp0_5, ↓gp0_6, ↓gp0_7, ↓gp0_8, ↓gp0_9, ↓gp0_10, ↓gp0_18, ↓gp0_19, ↓gp0_20, ↓gp0_22, ↓gp23_43, ↓gp23_32, ↓gp23_33, ↓gp23_34, ↓gp23_35, ↓gp23_36, ↓gp29_43, ↓gp29_32, ↓gp29_33, ↓gp29_34, ↓gp29_35, ↓gp29_36, ↓gp54_53, ↓gp54_54, ↓gp54_55, ↓gp54_56, ↓gp54_57, ↓gp54_58, ↓gp54_59, ↓gp54_60, ↓gp54_61, ↓gp54_62, ↓gp54_65, ↓gp54_66, ↓gp54_67, ↓gp54_68, ↓gp54_69, ↓gp54_70, ↓gp54_71, ↓gp54_73, ↓gp54_74, ↓gp54_75, ↓gp54_76, ↓gp54_84, ↓gp54_85, ↓gp54_87, ↓gp54_88, ↓xr59, kr59, ↓xr67, kr67, ↓xr75, kr75, ↓xr82, kr82, ↓xr89, kr89, ↓xr102, kr102, ↓xr115, kr115, ↓xr276, kr276, ↓xr437, kr437, ↓xr444, kr444, ↓xr453, kr453, ↓xr536, kr536, ↓xr553, kr553, hs0, hw0, hs1, hw1, hs2, hw2, hs3, hw3, hs4, hw4, hs5, hw5, hs6, hw6, hs7, hw7, hs8, hw8, hs9, hw9, hs10, hw10, hs11, hw11, hs12, hw12, hs13, hw13, hs14, hw14, hs15, hw15, hs16, hw16, hs17, hw17, hs18, hw18, hs19, hw19, hs20, hw20, hs21, hw21, hs22, hw22, hs23, hw23, hs25, hw25, hs26, hw26, hs27, hw27, hs28, hw28, hs9b, hw9b, hs10b, hw10b, kd0, kd20, kd21, kd22, kd23, kd24, kd25, kd26, kd27, kd28, kd29, kd30, kd31, kd32, kd33, kd34, kd35, kd36, kd37, kd38, kd39, kd40, kd41, kd42, kd54, kd55, kd56, kd57, kd58, kd59, kd67, kd75, kd82, kd89, kd102, kd115, kd276, kd437, kd444, kd451, kd452, kd453, kd534, kd535, kd536, kd553, kd557, kd558, kd559, kd560, kd561, ↓xgI_u, ↓xpI_u, ↓xaI_u, ↓xsI_u, ↓xrk_u, ↓xrk0_u, ↓xob_v, ↓xmb_v, ↓xth_v, ↓xth_x, ↓jn_u, ↓xlen_u, ↓xaL_u, ↓xsL_u, ↓xbl_0, ↓xbl_1, eq_self, inb_n, inb_d, Sh_PI, Sh_PL, dk_PI, dk_PL, dr_PI, dr_PL, ↓reduceIte, Int32.reduceLE, Int32.reduceLT, Int32.reduceToNatClampNeg, Nat.reduceLT, Nat.reduceLeDiff, Nat.reduceEqDiff, Nat.reduceAdd, Nat.reduceMul, sh2, h3, if_false]
        exact hK
      obtain ⟨v1, M2, e2, f2, k2, ev1⟩ := tS_num (lo := 0) (hi := Int32.ofNat J - 1) h.1
      have b2 := h.to hB6 f2 k2
      have sh2 := k2.1.1
      have kd := h.2.1
      rw [boF, if_pos hp] at hE
      simp -implicitDefEqProofs only [L_X10_book_48, ↓gp0_2, ↓gp0_3, ↓gp0_4, ↓gp0_5, ↓gp0_6, ↓gp0_7, ↓gp0_8, ↓gp0_9, ↓gp0_10, ↓gp0_18, ↓gp0_19, ↓gp0_20, ↓gp0_22, ↓gp23_43, ↓gp23_32, ↓gp23_33, ↓gp23_34, ↓gp23_35, ↓gp23_36, ↓gp29_43, ↓gp29_32, ↓gp29_33, ↓gp29_34, ↓gp29_35, ↓gp29_36, ↓gp54_53, ↓gp54_54, ↓gp54_55, ↓gp54_56, ↓gp54_57, ↓gp54_58, ↓gp54_59, ↓gp54_60, ↓gp54_61, ↓gp54_62, ↓gp54_65, ↓gp54_66, ↓gp54_67, ↓gp54_68, ↓gp54_69, ↓gp54_70, ↓gp54_71, ↓gp54_73, ↓gp54_74, ↓gp54_75, ↓gp54_76, ↓gp54_84, ↓gp54_85, ↓gp54_87, ↓gp54_88, ↓xr59, kr59, ↓xr67, kr67, ↓xr75, kr75, ↓xr82, kr82, ↓xr89, kr89, ↓xr102, kr102, ↓xr115, kr115, ↓xr276, kr276, ↓xr437, kr437, ↓xr444, kr444, ↓xr453, kr453, ↓xr536, kr536, ↓xr553, kr553, hs0, hw0, hs1, hw1, hs2, hw2, hs3, hw3, hs4, hw4, hs5, hw5, hs6, hw6, hs7, hw7, hs8, hw8, hs9, hw9, hs10, hw10, hs11, hw11, hs12, hw12, hs13, hw13, hs14, hw14, hs15, hw15, hs16, hw16, hs17, hw17, hs18, hw18, hs19, hw19, hs20, hw20, hs21, hw21, hs22, hw22, hs23, hw23, hs25, hw25, hs26, hw26, hs27, hw27, hs28, hw28, hs9b, hw9b, hs10b, hw10b, kd0, kd20, kd21, kd22, kd23, kd24, kd25, kd26, kd27, kd28, kd29, kd30, kd31, kd32, kd33, kd34, kd35, kd36, kd37, kd38, kd39, kd40, kd41, kd42, kd54, kd55, kd56, kd57, kd58, kd59, kd67, kd75, kd82, kd89, kd102, kd115, kd276, kd437, kd444, kd451, kd452, kd453, kd534, kd535, kd536, kd553, kd557, kd558, kd559, kd560, kd561, ↓xgI_u, ↓xpI_u, ↓xaI_u, ↓xsI_u, ↓xrk_u, ↓xrk0_u, ↓xob_v, ↓xmb_v, ↓xth_v, ↓xth_x, ↓jn_u, ↓xlen_u, ↓xaL_u, ↓xsL_u, ↓xbl_0, ↓xbl_1, eq_self, inb_n, inb_d, Sh_PI, Sh_PL, dk_PI, dk_PL, dr_PI, dr_PL, ↓reduceIte, Int32.reduceLE, Int32.reduceLT, Int32.reduceToNatClampNeg, Nat.reduceLT, Nat.reduceLeDiff, Nat.reduceEqDiff, Nat.reduceAdd, Nat.reduceMul, hs, g49, if_true, g48, h46, hle, if_false, kd, e2, sh2]
      -- what follows the first number
      have step : ∀ M3 : dwSt, fr (sWr b) nz 0 0 M1 M3 → tSt b M3 A L (boQ (xbN A) L J B p) → E (xrk M3 (b + 54) 3 (xmb (m_X10_number M3 (b + 54) 0 40) (fun v31 M32 => xrk M32 (b + 54) 3 (xmb (m_X10_sign M32 (b + 54) 59) (fun _ M34 => xgI M34 49 (b + 54) (fun v35 => jn (fun (y36 : Int32) (y37 : Int32) (M38 : dwSt) => xrk M38 (b + 54) 3 (xmb (m_X10_blanks M38 (b + 54)) (fun _ M40 => L_X10_book_48 (b + 54) K f' y36 y37 M40))) (fun j162 => if v35 = 0 then xgR M34 68 (b + 54) (fun v41 => xaR M34 4 v41 (Int32.ofNat B.1) (fun v42 => xsI M34 v42 0 v1 (fun M43 => xgR M43 68 (b + 54) (fun v44 => xaR M43 4 v44 (Int32.ofNat B.1) (fun v45 => xsI M43 v45 1 v31 (fun M46 => j162 (Int32.ofNat B.1 + 1) (Int32.ofNat m ||| (1 <<< (v1 &&& 31))) M46)))))) else j162 (Int32.ofNat B.1) (Int32.ofNat m) M34))))))) := by
        intro M3 f3 k3
        obtain ⟨v2, M4, e4, f4, k4, ev2⟩ := tS_num (lo := 0) (hi := 40) k3
        obtain ⟨M5, e5, f5, k5⟩ := tS_sign (c := 59) k4 (by omega)
        have e5' : m_X10_sign M4 (b + 54) 59 = some ((), M5) := e5
        have k5' : tSt b M5 A L (boE (xbN A) L J B p) := k5
        have F15 : fr (sWr b) nz 0 0 M1 M5 := (f3.t0 f4).t0 f5
        have b5 := h.to hB6 F15 k5'
        have sh3 := k3.1.1
        have sh4 := k4.1.1
        have sh5 := k5.1.1
        simp only [↓gp0_2, ↓gp0_3, ↓gp0_4, ↓gp0_5, ↓gp0_6, ↓gp0_7, ↓gp0_8, ↓gp0_9, ↓gp0_10, ↓gp0_18, ↓gp0_19, ↓gp0_20, ↓gp0_22, ↓gp23_43, ↓gp23_32, ↓gp23_33, ↓gp23_34, ↓gp23_35, ↓gp23_36, ↓gp29_43, ↓gp29_32, ↓gp29_33, ↓gp29_34, ↓gp29_35, ↓gp29_36, ↓gp54_53, ↓gp54_54, ↓gp54_55, ↓gp54_56, ↓gp54_57, ↓gp54_58, ↓gp54_59, ↓gp54_60, ↓gp54_61, ↓gp54_62, ↓gp54_65, ↓gp54_66, ↓gp54_67, ↓gp54_68, ↓gp54_69, ↓gp54_70, ↓gp54_71, ↓gp54_73, ↓gp54_74, ↓gp54_75, ↓gp54_76, ↓gp54_84, ↓gp54_85, ↓gp54_87, ↓gp54_88, ↓xr59, kr59, ↓xr67, kr67, ↓xr75, kr75, ↓xr82, kr82, ↓xr89, kr89, ↓xr102, kr102, ↓xr115, kr115, ↓xr276, kr276, ↓xr437, kr437, ↓xr444, kr444, ↓xr453, kr453, ↓xr536, kr536, ↓xr553, kr553, hs0, hw0, hs1, hw1, hs2, hw2, hs3, hw3, hs4, hw4, hs5, hw5, hs6, hw6, hs7, hw7, hs8, hw8, hs9, hw9, hs10, hw10, hs11, hw11, hs12, hw12, hs13, hw13, hs14, hw14, hs15, hw15, hs16, hw16, hs17, hw17, hs18, hw18, hs19, hw19, hs20, hw20, hs21, hw21, hs22, hw22, hs23, hw23, hs25, hw25, hs26, hw26, hs27, hw27, hs28, hw28, hs9b, hw9b, hs10b, hw10b, kd0, kd20, kd21, kd22, kd23, kd24, kd25, kd26, kd27, kd28, kd29, kd30, kd31, kd32, kd33, kd34, kd35, kd36, kd37, kd38, kd39, kd40, kd41, kd42, kd54, kd55, kd56, kd57, kd58, kd59, kd67, kd75, kd82, kd89, kd102, kd115, kd276, kd437, kd444, kd451, kd452, kd453, kd534, kd535, kd536, kd553, kd557, kd558, kd559, kd560, kd561, ↓xgI_u, ↓xpI_u, ↓xaI_u, ↓xsI_u, ↓xrk_u, ↓xrk0_u, ↓xob_v, ↓xmb_v, ↓xth_v, ↓xth_x, ↓jn_u, ↓xlen_u, ↓xaL_u, ↓xsL_u, ↓xbl_0, ↓xbl_1, eq_self, inb_n, inb_d, Sh_PI, Sh_PL, dk_PI, dk_PL, dr_PI, dr_PL, ↓reduceIte, Int32.reduceLE, Int32.reduceLT, Int32.reduceToNatClampNeg, Nat.reduceLT, Nat.reduceLeDiff, Nat.reduceEqDiff, Nat.reduceAdd, Nat.reduceMul, sh3, e4, sh4, e5', sh5]
        cases hEE : boE (xbN A) L J B p with
        | inr e =>
          rw [hEE] at k5' hE
          have z := k5'.bad.2.2
          rw [if_neg z]
          obtain ⟨M6, e6, f6, k6⟩ := tS_bl k5'
          have sh6 := k6.1.1
          simp only [↓gp0_2, ↓gp0_3, ↓gp0_4, ↓gp0_5, ↓gp0_6, ↓gp0_7, ↓gp0_8, ↓gp0_9, ↓gp0_10, ↓gp0_18, ↓gp0_19, ↓gp0_20, ↓gp0_22, ↓gp23_43, ↓gp23_32, ↓gp23_33, ↓gp23_34, ↓gp23_35, ↓gp23_36, ↓gp29_43, ↓gp29_32, ↓gp29_33, ↓gp29_34, ↓gp29_35, ↓gp29_36, ↓gp54_53, ↓gp54_54, ↓gp54_55, ↓gp54_56, ↓gp54_57, ↓gp54_58, ↓gp54_59, ↓gp54_60, ↓gp54_61, ↓gp54_62, ↓gp54_65, ↓gp54_66, ↓gp54_67, ↓gp54_68, ↓gp54_69, ↓gp54_70, ↓gp54_71, ↓gp54_73, ↓gp54_74, ↓gp54_75, ↓gp54_76, ↓gp54_84, ↓gp54_85, ↓gp54_87, ↓gp54_88, ↓xr59, kr59, ↓xr67, kr67, ↓xr75, kr75, ↓xr82, kr82, ↓xr89, kr89, ↓xr102, kr102, ↓xr115, kr115, ↓xr276, kr276, ↓xr437, kr437, ↓xr444, kr444, ↓xr453, kr453, ↓xr536, kr536, ↓xr553, kr553, hs0, hw0, hs1, hw1, hs2, hw2, hs3, hw3, hs4, hw4, hs5, hw5, hs6, hw6, hs7, hw7, hs8, hw8, hs9, hw9, hs10, hw10, hs11, hw11, hs12, hw12, hs13, hw13, hs14, hw14, hs15, hw15, hs16, hw16, hs17, hw17, hs18, hw18, hs19, hw19, hs20, hw20, hs21, hw21, hs22, hw22, hs23, hw23, hs25, hw25, hs26, hw26, hs27, hw27, hs28, hw28, hs9b, hw9b, hs10b, hw10b, kd0, kd20, kd21, kd22, kd23, kd24, kd25, kd26, kd27, kd28, kd29, kd30, kd31, kd32, kd33, kd34, kd35, kd36, kd37, kd38, kd39, kd40, kd41, kd42, kd54, kd55, kd56, kd57, kd58, kd59, kd67, kd75, kd82, kd89, kd102, kd115, kd276, kd437, kd444, kd451, kd452, kd453, kd534, kd535, kd536, kd553, kd557, kd558, kd559, kd560, kd561, ↓xgI_u, ↓xpI_u, ↓xaI_u, ↓xsI_u, ↓xrk_u, ↓xrk0_u, ↓xob_v, ↓xmb_v, ↓xth_v, ↓xth_x, ↓jn_u, ↓xlen_u, ↓xaL_u, ↓xsL_u, ↓xbl_0, ↓xbl_1, eq_self, inb_n, inb_d, Sh_PI, Sh_PL, dk_PI, dk_PL, dr_PI, dr_PL, ↓reduceIte, Int32.reduceLE, Int32.reduceLT, Int32.reduceToNatClampNeg, Nat.reduceLT, Nat.reduceLeDiff, Nat.reduceEqDiff, Nat.reduceAdd, Nat.reduceMul, sh5, e6]
          exact hbad M6 B.1 m f' e (by omega) k6 (hE B M6 ((F15.mono (fun a k z => Or.inl z) (fun _ _ z => z) (Nat.le_refl _) (Nat.le_refl _)).t0 (f6.mono (fun a k z => Or.inl ⟨z.1, Or.inl z.2⟩) (fun _ _ z => z) (Nat.le_refl _) (Nat.le_refl _))) k6)
        | inl p' =>
          rw [hEE] at k5' hE b5
          obtain ⟨q48, q49, qp⟩ := k5'.ok
          obtain ⟨z, y, hz, hQ, c, hy, hzJ, hy40, hpp, hpL⟩ := boE_inl gp (by omega) hEE
          have hV : boV (xbN A) L J B p = .inl y := hy
          have ev1' : v1 = Int32.ofNat z.1 := by rw [ev1]; show Int32.ofNat (vaR (boJ (xbN A) L J p)) = _; rw [hz]; rfl
          have ev2' : v2 = Int32.ofNat y.1 := by rw [ev2]; show Int32.ofNat (vaR (boV (xbN A) L J B p)) = _; rw [hV]; rfl
          obtain ⟨hadd, hlt6⟩ := bkR_add hJ6 hB (j := z.1) (v := y.1) (by omega) hy40 c
          subst ev1'
          subst ev2'
          have hi6 : B.1 < 6 := hlt6
          have f6 : fr (fun a k => a = b + 445 + B.1) nz 0 0 M5 (dwPI (dwPI M5 (b + 445 + B.1) 0 (Int32.ofNat z.1)) (b + 445 + B.1) 1 (Int32.ofNat y.1)) := ((fr.refl (S := fun a k => a = b + 445 + B.1) (Z := nz) M5).pI (a := b + 445 + B.1) (k := 0) _ (Or.inl rfl)).pI (a := b + 445 + B.1) (k := 1) _ (Or.inl rfl)
          have k6 : tSt b (dwPI (dwPI M5 (b + 445 + B.1) 0 (Int32.ofNat z.1)) (b + 445 + B.1) 1 (Int32.ofNat y.1)) A L (.inl p') := k5'.fr f6 (fun k hk => by omega) (fun k => by omega) nz_p
          simp only [↓gp0_2, ↓gp0_3, ↓gp0_4, ↓gp0_5, ↓gp0_6, ↓gp0_7, ↓gp0_8, ↓gp0_9, ↓gp0_10, ↓gp0_18, ↓gp0_19, ↓gp0_20, ↓gp0_22, ↓gp23_43, ↓gp23_32, ↓gp23_33, ↓gp23_34, ↓gp23_35, ↓gp23_36, ↓gp29_43, ↓gp29_32, ↓gp29_33, ↓gp29_34, ↓gp29_35, ↓gp29_36, ↓gp54_53, ↓gp54_54, ↓gp54_55, ↓gp54_56, ↓gp54_57, ↓gp54_58, ↓gp54_59, ↓gp54_60, ↓gp54_61, ↓gp54_62, ↓gp54_65, ↓gp54_66, ↓gp54_67, ↓gp54_68, ↓gp54_69, ↓gp54_70, ↓gp54_71, ↓gp54_73, ↓gp54_74, ↓gp54_75, ↓gp54_76, ↓gp54_84, ↓gp54_85, ↓gp54_87, ↓gp54_88, ↓xr59, kr59, ↓xr67, kr67, ↓xr75, kr75, ↓xr82, kr82, ↓xr89, kr89, ↓xr102, kr102, ↓xr115, kr115, ↓xr276, kr276, ↓xr437, kr437, ↓xr444, kr444, ↓xr453, kr453, ↓xr536, kr536, ↓xr553, kr553, hs0, hw0, hs1, hw1, hs2, hw2, hs3, hw3, hs4, hw4, hs5, hw5, hs6, hw6, hs7, hw7, hs8, hw8, hs9, hw9, hs10, hw10, hs11, hw11, hs12, hw12, hs13, hw13, hs14, hw14, hs15, hw15, hs16, hw16, hs17, hw17, hs18, hw18, hs19, hw19, hs20, hw20, hs21, hw21, hs22, hw22, hs23, hw23, hs25, hw25, hs26, hw26, hs27, hw27, hs28, hw28, hs9b, hw9b, hs10b, hw10b, kd0, kd20, kd21, kd22, kd23, kd24, kd25, kd26, kd27, kd28, kd29, kd30, kd31, kd32, kd33, kd34, kd35, kd36, kd37, kd38, kd39, kd40, kd41, kd42, kd54, kd55, kd56, kd57, kd58, kd59, kd67, kd75, kd82, kd89, kd102, kd115, kd276, kd437, kd444, kd451, kd452, kd453, kd534, kd535, kd536, kd553, kd557, kd558, kd559, kd560, kd561, ↓xgI_u, ↓xpI_u, ↓xaI_u, ↓xsI_u, ↓xrk_u, ↓xrk0_u, ↓xob_v, ↓xmb_v, ↓xth_v, ↓xth_x, ↓jn_u, ↓xlen_u, ↓xaL_u, ↓xsL_u, ↓xbl_0, ↓xbl_1, eq_self, inb_n, inb_d, Sh_PI, Sh_PL, dk_PI, dk_PL, dr_PI, dr_PL, ↓reduceIte, Int32.reduceLE, Int32.reduceLT, Int32.reduceToNatClampNeg, Nat.reduceLT, Nat.reduceLeDiff, Nat.reduceEqDiff, Nat.reduceAdd, Nat.reduceMul, q49, if_true, sh5, hi6]
          obtain ⟨M7, e7, f7, k7⟩ := tS_bl k6
          have sh7 := k7.1.1
          simp only [e7]
          have bI6 : Int32.ofNat m ||| (1 <<< (Int32.ofNat z.1 &&& 31)) = Int32.ofNat (m ||| 2 ^ z.1) := by
            show Int32.ofNat m ||| bI (Int32.ofNat z.1) = _
            rw [bI_n _ (by omega), i_or]
          rw [bI6, i_succ]
          have hm64 : m ||| 2 ^ z.1 < 64 := Nat.or_lt_two_pow (n := 6) h.2.2.2.1 (Nat.pow_lt_pow_right (by omega) (by omega))
          have F16 : fr (sBt b) nz 0 0 M1 M7 := ((F15.mono (S' := sBt b) (Z' := nz) (fun a k z => Or.inl z) (fun _ _ z => z) (Nat.le_refl _) (Nat.le_refl _)).t0 (f6.mono (fun a k z => Or.inr (by omega)) (fun _ _ z => z) (Nat.le_refl _) (Nat.le_refl _))).t0 (f7.mono (fun a k z => Or.inl ⟨z.1, Or.inl z.2⟩) (fun _ _ z => z) (Nat.le_refl _) (Nat.le_refl _))
          have b7 : bT b M7 A L J (bkAdd B z.1 y.1) (m ||| 2 ^ z.1) (.inl (blS (xbN A) L p')) := by
            have hn5 := shN sh5
            refine ⟨k7, ?_, fun k i hk hi => ?_, hm64, fun j hj => ?_⟩
            · rw [f7.i (by rw [dn_PI, dn_PI]; omega) (by unfold sPt; omega), di_ne (by omega), di_ne (by omega)]; exact b5.2.1
            · have hk' : k < B.1 + 1 := hk
              rw [f7.i (by rw [dn_PI, dn_PI]; omega) (by unfold sPt; omega)]
              show _ = if k = B.1 then _ else _
              by_cases e : k = B.1
              · subst e
                rw [if_pos rfl]
                rcases (by omega : i = 0 ∨ i = 1) with rfl | rfl
                · rw [if_pos rfl, di_ne (by omega), di_eq]
                · rw [if_neg (by omega), di_eq]
              · rw [if_neg e, di_ne (by omega), di_ne (by omega)]; exact b5.2.2.1 k i (by omega) hi
            · rw [bkAdd_s (by omega) (by omega), Nat.testBit_or, Nat.testBit_two_pow]
              have hm := h.2.2.2.2 j hj
              by_cases e : j = z.1
              · rw [if_pos e]
                have hvn : ¬ Int32.ofNat y.1 = -1 := fun e => by
                  have := congrArg Int32.toInt e
                  rw [i_toInt (by omega)] at this
                  have e1 : (-1 : Int32).toInt = -1 := rfl
                  omega
                simp [e, hvn]
              · rw [if_neg e, ← hm]
                simp [show ¬ z.1 = j from fun z => e z.symm]
          refine ih (blS (xbN A) L p') f' (bkAdd B z.1 y.1) (m ||| 2 ^ z.1) M7 ?_ (by omega) hadd b7 blS_bl fun B' M8 f8 t8 => hE B' M8 (F16.t0 f8) ?_
          · have := (blS_le (X := xbN A) (L := L) _ p' rfl).1; omega
          · have hV2 : boV (xbN A) L J B p = .inl y := hV
            simp only [hz, hV2, vaR]
            exact t8
      by_cases c0 : dwI M2 (b + 54) 49 = 0
      · cases hJ2 : boJ (xbN A) L J p with
        | inr e =>
          have k2' : tSt b M2 A L (poR (boJ (xbN A) L J p)) := k2
          rw [hJ2] at k2'
          exact absurd c0 (tSt.bad k2').2.2
        | inl z =>
          have k2' : tSt b M2 A L (poR (boJ (xbN A) L J p)) := k2
          rw [hJ2] at k2'
          have ev1' : v1 = Int32.ofNat z.1 := by rw [ev1]; show Int32.ofNat (vaR (boJ (xbN A) L J p)) = _; rw [hJ2]; rfl
          have hzJ : z.1 < J := inV_lt (by have := (nbS_le gp hJ2).1; omega) (by omega) (nbS_le gp hJ2).2.2.2
          rw [if_pos c0, ev1', t_hasB h.2.2.2.1 (by omega), xob_v, ← ev1']
          by_cases c : bookS B z.1 = -1
          · have hQ : boQ (xbN A) L J B p = .inl z.2 := by simp only [boQ, hJ2, c, if_true]
            rw [if_neg (fun q => (h.2.2.2.2 z.1 (by omega)).mp q c), if_pos rfl]
            have q := step M2 f2 (by rw [hQ]; exact k2')
            rw [xrk_u (kd54 sh2)] at q
            exact q
          · have hQ : boQ (xbN A) L J B p = .inr (2, p) := by simp only [boQ, hJ2, c, if_false, hbl]
            rw [if_pos ((h.2.2.2.2 z.1 (by omega)).mpr c), if_neg (by decide)]
            obtain ⟨M3, e3, f3, k3⟩ := tS_wrong (k := 2) k2' (by omega) p
            have e3' : m_X10_wrong M2 (b + 54) 2 (Int32.ofNat p) = some ((), M3) := e3
            simp only [↓gp0_2, ↓gp0_3, ↓gp0_4, ↓gp0_5, ↓gp0_6, ↓gp0_7, ↓gp0_8, ↓gp0_9, ↓gp0_10, ↓gp0_18, ↓gp0_19, ↓gp0_20, ↓gp0_22, ↓gp23_43, ↓gp23_32, ↓gp23_33, ↓gp23_34, ↓gp23_35, ↓gp23_36, ↓gp29_43, ↓gp29_32, ↓gp29_33, ↓gp29_34, ↓gp29_35, ↓gp29_36, ↓gp54_53, ↓gp54_54, ↓gp54_55, ↓gp54_56, ↓gp54_57, ↓gp54_58, ↓gp54_59, ↓gp54_60, ↓gp54_61, ↓gp54_62, ↓gp54_65, ↓gp54_66, ↓gp54_67, ↓gp54_68, ↓gp54_69, ↓gp54_70, ↓gp54_71, ↓gp54_73, ↓gp54_74, ↓gp54_75, ↓gp54_76, ↓gp54_84, ↓gp54_85, ↓gp54_87, ↓gp54_88, ↓xr59, kr59, ↓xr67, kr67, ↓xr75, kr75, ↓xr82, kr82, ↓xr89, kr89, ↓xr102, kr102, ↓xr115, kr115, ↓xr276, kr276, ↓xr437, kr437, ↓xr444, kr444, ↓xr453, kr453, ↓xr536, kr536, ↓xr553, kr553, hs0, hw0, hs1, hw1, hs2, hw2, hs3, hw3, hs4, hw4, hs5, hw5, hs6, hw6, hs7, hw7, hs8, hw8, hs9, hw9, hs10, hw10, hs11, hw11, hs12, hw12, hs13, hw13, hs14, hw14, hs15, hw15, hs16, hw16, hs17, hw17, hs18, hw18, hs19, hw19, hs20, hw20, hs21, hw21, hs22, hw22, hs23, hw23, hs25, hw25, hs26, hw26, hs27, hw27, hs28, hw28, hs9b, hw9b, hs10b, hw10b, kd0, kd20, kd21, kd22, kd23, kd24, kd25, kd26, kd27, kd28, kd29, kd30, kd31, kd32, kd33, kd34, kd35, kd36, kd37, kd38, kd39, kd40, kd41, kd42, kd54, kd55, kd56, kd57, kd58, kd59, kd67, kd75, kd82, kd89, kd102, kd115, kd276, kd437, kd444, kd451, kd452, kd453, kd534, kd535, kd536, kd553, kd557, kd558, kd559, kd560, kd561, ↓xgI_u, ↓xpI_u, ↓xaI_u, ↓xsI_u, ↓xrk_u, ↓xrk0_u, ↓xob_v, ↓xmb_v, ↓xth_v, ↓xth_x, ↓jn_u, ↓xlen_u, ↓xaL_u, ↓xsL_u, ↓xbl_0, ↓xbl_1, eq_self, inb_n, inb_d, Sh_PI, Sh_PL, dk_PI, dk_PL, dr_PI, dr_PL, ↓reduceIte, Int32.reduceLE, Int32.reduceLT, Int32.reduceToNatClampNeg, Nat.reduceLT, Nat.reduceLeDiff, Nat.reduceEqDiff, Nat.reduceAdd, Nat.reduceMul, sh2, e3']
            exact step M3 (f2.t0 f3) (by rw [hQ]; exact k3)
      · cases hJ2 : boJ (xbN A) L J p with
        | inr e =>
          have k2' : tSt b M2 A L (poR (boJ (xbN A) L J p)) := k2
          rw [hJ2] at k2'
          have hQ : boQ (xbN A) L J B p = .inr e := by simp only [boQ, hJ2]
          rw [if_neg c0]
          have q := step M2 f2 (by rw [hQ]; exact k2')
          rw [xrk_u (kd54 sh2)] at q
          exact q
        | inl z =>
          have k2' : tSt b M2 A L (poR (boJ (xbN A) L J p)) := k2
          rw [hJ2] at k2'
          exact absurd (tSt.ok k2').2.1 c0
    · have hle := eq_true (show Int32.ofNat L ≤ Int32.ofNat p by rw [show p = L by omega]; exact Int32.le_refl _)
      rw [boF, if_neg hp] at hE
      simp -implicitDefEqProofs only [L_X10_book_48, ↓gp0_2, ↓gp0_3, ↓gp0_4, ↓gp0_5, ↓gp0_6, ↓gp0_7, ↓gp0_8, ↓gp0_9, ↓gp0_10, ↓gp0_18, ↓gp0_19, ↓gp0_20, ↓gp0_22, ↓gp23_43, ↓gp23_32, ↓gp23_33, ↓gp23_34, ↓gp23_35, ↓gp23_36, ↓gp29_43, ↓gp29_32, ↓gp29_33, ↓gp29_34, ↓gp29_35, ↓gp29_36, ↓gp54_53, ↓gp54_54, ↓gp54_55, ↓gp54_56, ↓gp54_57, ↓gp54_58, ↓gp54_59, ↓gp54_60, ↓gp54_61, ↓gp54_62, ↓gp54_65, ↓gp54_66, ↓gp54_67, ↓gp54_68, ↓gp54_69, ↓gp54_70, ↓gp54_71, ↓gp54_73, ↓gp54_74, ↓gp54_75, ↓gp54_76, ↓gp54_84, ↓gp54_85, ↓gp54_87, ↓gp54_88, ↓xr59, kr59, ↓xr67, kr67, ↓xr75, kr75, ↓xr82, kr82, ↓xr89, kr89, ↓xr102, kr102, ↓xr115, kr115, ↓xr276, kr276, ↓xr437, kr437, ↓xr444, kr444, ↓xr453, kr453, ↓xr536, kr536, ↓xr553, kr553, hs0, hw0, hs1, hw1, hs2, hw2, hs3, hw3, hs4, hw4, hs5, hw5, hs6, hw6, hs7, hw7, hs8, hw8, hs9, hw9, hs10, hw10, hs11, hw11, hs12, hw12, hs13, hw13, hs14, hw14, hs15, hw15, hs16, hw16, hs17, hw17, hs18, hw18, hs19, hw19, hs20, hw20, hs21, hw21, hs22, hw22, hs23, hw23, hs25, hw25, hs26, hw26, hs27, hw27, hs28, hw28, hs9b, hw9b, hs10b, hw10b, kd0, kd20, kd21, kd22, kd23, kd24, kd25, kd26, kd27, kd28, kd29, kd30, kd31, kd32, kd33, kd34, kd35, kd36, kd37, kd38, kd39, kd40, kd41, kd42, kd54, kd55, kd56, kd57, kd58, kd59, kd67, kd75, kd82, kd89, kd102, kd115, kd276, kd437, kd444, kd451, kd452, kd453, kd534, kd535, kd536, kd553, kd557, kd558, kd559, kd560, kd561, ↓xgI_u, ↓xpI_u, ↓xaI_u, ↓xsI_u, ↓xrk_u, ↓xrk0_u, ↓xob_v, ↓xmb_v, ↓xth_v, ↓xth_x, ↓jn_u, ↓xlen_u, ↓xaL_u, ↓xsL_u, ↓xbl_0, ↓xbl_1, eq_self, inb_n, inb_d, Sh_PI, Sh_PL, dk_PI, dk_PL, dr_PI, dr_PL, ↓reduceIte, Int32.reduceLE, Int32.reduceLT, Int32.reduceToNatClampNeg, Nat.reduceLT, Nat.reduceLeDiff, Nat.reduceEqDiff, Nat.reduceAdd, Nat.reduceMul, hs, g49, g48, h46, hle, if_true]
      exact hE B M1 (fr.refl M1) ⟨rfl, m, p, h⟩
/-! rows laid over rows -/
theorem t_laysR {src dst N m : Nat} (hs : Sh b M) (hd : src + N < dst ∨ dst + N < src) (hb1 : b + 54 ≤ src) (hb3 : b + 54 ≤ dst) (hb2 : src + N < b + 562 ∧ dst + N < b + 562) (hnp : ∀ i k, i < N → ¬ ptr b (dst + 1 + i) k) (hm : m ≤ N) (hN : N ≤ 200) (x1 : ∀ M', Sh b M' → ∀ i, i < N → ∀ {σ : Type} (K : Nat → Option σ), xaR M' 4 src (Int32.ofNat i) K = K (src + 1 + i)) (x2 : ∀ M', Sh b M' → ∀ i, i < N → ∀ {σ : Type} (K : Nat → Option σ), xaR M' 4 dst (Int32.ofNat i) K = K (dst + 1 + i)) (k1 : ∀ M', Sh b M' → ∀ i, i < N → dwK M' (src + 1 + i) = (1, 2)) (k2 : ∀ M', Sh b M' → ∀ i, i < N → dwK M' (dst + 1 + i) = (1, 2)) : ∃ M2, m_X10_lays M src dst (Int32.ofNat m) = some ((), M2) ∧ fr (fun a _ => dst + 1 ≤ a ∧ a ≤ dst + N) nz 0 0 M M2 ∧ ∀ k i, k < m → i < 2 → dwI M2 (dst + 1 + k) i = dwI M (src + 1 + k) i := by
  have hn := shN hs
  simp -implicitDefEqProofs only [m_X10_lays, jn_u]
  refine lpx (E := fun x => ∃ M2, x = some ((), M2) ∧ fr (fun a _ => dst + 1 ≤ a ∧ a ≤ dst + N) nz 0 0 M M2 ∧ ∀ k i, k < m → i < 2 → dwI M2 (dst + 1 + k) i = dwI M (src + 1 + k) i) (fun f i (M' : dwSt) => L_X10_lays_2 src dst (Int32.ofNat m) (fun (M1 : dwSt) => some ((), M1)) f (Int32.ofNat i) M') m (fun j M' => fr (fun a _ => dst + 1 ≤ a ∧ a ≤ dst + N) nz 0 0 M M' ∧ ∀ k i, k < j → i < 2 → dwI M' (dst + 1 + k) i = dwI M (src + 1 + k) i) ?_ ?_ 1000000 0 M (by omega) (by omega) ⟨fr.refl M, fun k i hk => absurd hk (Nat.not_lt_zero k)⟩
  · intro f M' ⟨hf, hr⟩
    refine ⟨M', ?_, hf, hr⟩
    rw [L_X10_lays_2, if_pos (Int32.le_refl _)]
  · intro f j M' hj ⟨hf, hr⟩ hnx
    have h7 := i_geF hj (show m < 2147483648 by omega)
    show ∃ M'', L_X10_lays_2 src dst (Int32.ofNat m) (fun (M1 : dwSt) => some ((), M1)) (f + 1) (Int32.ofNat j) M' = some ((), M'') ∧ _
    rw [L_X10_lays_2, if_neg (of_eq_false h7), jn_u]
    refine lpx (E := fun x => ∃ M2, x = some ((), M2) ∧ fr (fun a _ => dst + 1 ≤ a ∧ a ≤ dst + N) nz 0 0 M M2 ∧ ∀ k i, k < m → i < 2 → dwI M2 (dst + 1 + k) i = dwI M (src + 1 + k) i) (fun f1 i (M1 : dwSt) => L_X10_lays_10 src dst (Int32.ofNat m) (Int32.ofNat j) (fun (M2 : dwSt) => L_X10_lays_2 src dst (Int32.ofNat m) (fun (M1 : dwSt) => some ((), M1)) f (Int32.ofNat j + 1) M2) f1 (Int32.ofNat i) M1) 2 (fun q M1 => fr (fun a _ => dst + 1 ≤ a ∧ a ≤ dst + N) nz 0 0 M M1 ∧ (∀ k i, k < j → i < 2 → dwI M1 (dst + 1 + k) i = dwI M (src + 1 + k) i) ∧ ∀ i, i < q → dwI M1 (dst + 1 + j) i = dwI M (src + 1 + j) i) ?_ ?_ 1000000 0 M' (by omega) (by omega) ⟨hf, hr, fun i hi => absurd hi (Nat.not_lt_zero i)⟩
    · intro f1 M1 ⟨g1, g2, g3⟩
      have s1 := hs.fr g1 nz_p
      have kk := k2 M1 s1 j (by omega)
      show ∃ M'', L_X10_lays_10 src dst (Int32.ofNat m) (Int32.ofNat j) _ (f1 + 1) (Int32.ofNat 2) M1 = some ((), M'') ∧ _
      rw [L_X10_lays_10, x2 M1 s1 j (by omega), xlen_u (by rw [kk]; decide) (by rw [kk]; decide), kk, if_pos (Int32.le_refl _), i_succ]
      refine hnx M1 ⟨g1, fun k i hk hi => ?_⟩
      by_cases e : k = j
      · subst e; exact g3 i hi
      · exact g2 k i (by omega) hi
    · intro f1 q M1 hq ⟨g1, g2, g3⟩ hnx2
      have s1 := hs.fr g1 nz_p
      have kk := k2 M1 s1 j (by omega)
      have kk1 := k1 M1 s1 j (by omega)
      show ∃ M'', L_X10_lays_10 src dst (Int32.ofNat m) (Int32.ofNat j) _ (f1 + 1) (Int32.ofNat q) M1 = some ((), M'') ∧ _
      rw [L_X10_lays_10, x2 M1 s1 j (by omega), xlen_u (by rw [kk]; decide) (by rw [kk]; decide), kk, if_neg (of_eq_false (i_geF hq (by omega))), x2 M1 s1 j (by omega), x1 M1 s1 j (by omega), xaI_u (by rw [kk1]) (by rw [kk1]; exact inb_n (by omega) (by omega)), xsI_u (by rw [kk]) (by rw [kk]; exact inb_n (by omega) (by omega)), i_nat (by omega), i_succ q]
      have es : dwI M1 (src + 1 + j) q = dwI M (src + 1 + j) q := g1.i (by omega) (by omega)
      refine hnx2 _ ⟨g1.pI (a := dst + 1 + j) (k := q) _ (Or.inl ⟨by omega, by omega⟩), fun k i hk hi => ?_, fun i hi => ?_⟩
      · rw [di_ne (by omega)]; exact g2 k i hk hi
      · rw [di_PI]
        by_cases e : i = q
        · rw [if_pos ⟨rfl, e⟩, e, es]
        · rw [if_neg (fun z => e z.2)]; exact g3 i (by omega)
end READ
