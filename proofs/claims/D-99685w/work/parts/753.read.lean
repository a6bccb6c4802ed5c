/-! the twin reads: where it stands, at p without a fault, or with fault e -/
def tSt (b : Nat) (M : dwSt) (A : dvA) (L : Nat) (r : rsP) : Prop := tpT b M A ∧ dwI M (b + 54) 46 = Int32.ofNat L ∧ L ≤ (aTx A).1 ∧ ∃ p, p ≤ L ∧ dwI M (b + 54) 48 = Int32.ofNat p ∧ (∀ q, r = .inl q → p = q ∧ dwI M (b + 54) 49 = 0) ∧ (∀ e : Nat × Nat, r = .inr e → dwI M (b + 54) 49 = Int32.ofNat e.1 ∧ (0 < e.1 ∧ e.1 < 10) ∧ dwI M (b + 54) 50 = Int32.ofNat e.2)
def blR (X : Nat → Nat) (L : Nat) (r : rsP) : rsP := match r with
  | .inl p => .inl (blS X L p)
  | .inr e => .inr e
def sgR (X : Nat → Nat) (L c : Nat) (r : rsP) : rsP := match r with
  | .inl p => sgS X L c p
  | .inr e => .inr e
def nuR (X : Nat → Nat) (L : Nat) (lo hi : Int32) (r : rsP) : (Nat × Nat) ⊕ (Nat × Nat) := match r with
  | .inl p => nbS X L lo hi p
  | .inr e => .inr e
def poR (x : (Nat × Nat) ⊕ (Nat × Nat)) : rsP := match x with
  | .inl v => .inl v.2
  | .inr e => .inr e
def vaR (x : (Nat × Nat) ⊕ (Nat × Nat)) : Nat := match x with
  | .inl v => v.1
  | .inr _ => 0
section READ
variable {b : Nat} {M : dwSt} {A : dvA} {ρ : Type} {L : Nat} {r : rsP}
theorem tSt.ok {p : Nat} (h : tSt b M A L (.inl p)) : dwI M (b + 54) 48 = Int32.ofNat p ∧ dwI M (b + 54) 49 = 0 ∧ p ≤ L := by
  obtain ⟨-, -, -, q, h1, h2, h3, -⟩ := h
  obtain ⟨rfl, h4⟩ := h3 p rfl
  exact ⟨h2, h4, h1⟩
theorem tSt.bad {e : Nat × Nat} (h : tSt b M A L (.inr e)) : dwI M (b + 54) 49 = Int32.ofNat e.1 ∧ dwI M (b + 54) 50 = Int32.ofNat e.2 ∧ ¬ dwI M (b + 54) 49 = 0 := by
  obtain ⟨-, -, -, q, h1, h2, -, h3⟩ := h
  obtain ⟨h4, h5, h6⟩ := h3 e rfl
  refine ⟨h4, h6, ?_⟩
  rw [h4, show (0 : Int32) = Int32.ofNat 0 from rfl, i_inj (by omega) (by omega)]
  omega
theorem tSt_ok {p : Nat} (h1 : tpT b M A) (h2 : dwI M (b + 54) 46 = Int32.ofNat L) (h3 : L ≤ (aTx A).1) (h4 : p ≤ L) (h5 : dwI M (b + 54) 48 = Int32.ofNat p) (h6 : dwI M (b + 54) 49 = 0) : tSt b M A L (.inl p) :=
  ⟨h1, h2, h3, p, h4, h5, fun q e => (by cases e; exact ⟨rfl, h6⟩), fun e z => (by cases z)⟩
theorem tSt_bad {p : Nat} {e : Nat × Nat} (h1 : tpT b M A) (h2 : dwI M (b + 54) 46 = Int32.ofNat L) (h3 : L ≤ (aTx A).1) (h4 : p ≤ L) (h5 : dwI M (b + 54) 48 = Int32.ofNat p) (h6 : dwI M (b + 54) 49 = Int32.ofNat e.1) (h7 : 0 < e.1 ∧ e.1 < 10) (h8 : dwI M (b + 54) 50 = Int32.ofNat e.2) : tSt b M A L (.inr e) :=
  ⟨h1, h2, h3, p, h4, h5, fun q z => (by cases z), fun e' z => (by cases z; exact ⟨h6, h7, h8⟩)⟩
theorem tSt.fr {S Z : Nat → Nat → Prop} {n u : Nat} {M1 : dwSt} (h : tSt b M A L r) (f : fr S Z n u M M1) (hS : ∀ k, k = 46 ∨ k = 48 ∨ k = 49 ∨ k = 50 → ¬ S (b + 54) k) (h55 : ∀ k, ¬ S (b + 55) k) (hZ : ∀ a k, Z a k → ¬ ptr b a k) : tSt b M1 A L r := by
  obtain ⟨h1, h2, h3, p, h4, h5, h6, h7⟩ := h
  have hn := shN h1.1
  have e : ∀ k, k = 46 ∨ k = 48 ∨ k = 49 ∨ k = 50 → dwI M1 (b + 54) k = dwI M (b + 54) k := fun k hk => f.i (by omega) (hS k hk)
  refine ⟨h1.fr f h55 hZ, (e 46 (by omega)).trans h2, h3, p, h4, (e 48 (by omega)).trans h5, fun q z => ?_, fun q z => ?_⟩
  · rw [e 49 (by omega)]; exact h6 q z
  · rw [e 49 (by omega), e 50 (by omega)]; exact h7 q z
theorem tSt.lt (h : tSt b M A L r) (q : Nat) (hq : q < L) : xbN A q < 256 := (h.1.2.2 q (by have := h.2.2.1; omega)).1
theorem tS_bl (h : tSt b M A L r) : ∃ M2, m_X10_blanks M (b + 54) = some ((), M2) ∧ fr (sPt b) nz 0 0 M M2 ∧ tSt b M2 A L (blR (xbN A) L r) := by
  obtain ⟨h1, h2, h3, p, h4, h5, h6, h7⟩ := id h
  obtain ⟨M2, e, f, k⟩ := t_bl h3 h4 h1 h2 h5
  have hn := shN h1.1
  have i46 : dwI M2 (b + 54) 46 = Int32.ofNat L := (f.i (by omega) (by unfold sPt; omega)).trans h2
  have i49 : dwI M2 (b + 54) 49 = dwI M (b + 54) 49 := f.i (by omega) (by unfold sPt; omega)
  have i50 : dwI M2 (b + 54) 50 = dwI M (b + 54) 50 := f.i (by omega) (by unfold sPt; omega)
  refine ⟨M2, e, f, h1.fr f (fun k z => by have := z.1; omega) nz_p, i46, h3, _, (blS_le (X := xbN A) _ p rfl).2 h4, k, ?_, ?_⟩
  · intro q z
    cases r with
    | inl p' =>
      cases z
      obtain ⟨rfl, h8⟩ := h6 p' rfl
      exact ⟨rfl, i49.trans h8⟩
    | inr e => cases z
  · intro q z
    cases r with
    | inl p' => cases z
    | inr e =>
      cases z
      rw [i49, i50]; exact h7 _ rfl
theorem tS_num {lo hi : Int32} (h : tSt b M A L r) : ∃ v M2, m_X10_number M (b + 54) lo hi = some (v, M2) ∧ fr (sWr b) nz 0 0 M M2 ∧ tSt b M2 A L (poR (nuR (xbN A) L lo hi r)) ∧ v = Int32.ofNat (vaR (nuR (xbN A) L lo hi r)) := by
  have hn := shN h.1.1
  cases r with
  | inl p =>
    obtain ⟨h48, h49, hp⟩ := h.ok
    have q := t_num (lo := lo) (hi := hi) h.2.2.1 hp h.1 h.2.1 h48 h49
    show ∃ v M2, _ ∧ _ ∧ tSt b M2 A L (poR (nbS (xbN A) L lo hi p)) ∧ v = Int32.ofNat (vaR (nbS (xbN A) L lo hi p))
    cases hx : nbS (xbN A) L lo hi p with
    | inl z =>
      rw [hx] at q
      obtain ⟨M2, e, f, k⟩ := q
      obtain ⟨-, -, z3, -⟩ := nbS_le hp hx
      exact ⟨_, M2, e, f.mono (fun a k z => ⟨z.1, Or.inl z.2⟩) (fun _ _ z => z) (Nat.le_refl _) (Nat.le_refl _), tSt_ok (h.1.fr f (fun k z => by have := z.1; omega) nz_p) ((f.i (by omega) (by unfold sPt; omega)).trans h.2.1) h.2.2.1 z3 k ((f.i (by omega) (by unfold sPt; omega)).trans h49), rfl⟩
    | inr z =>
      rw [hx] at q
      obtain ⟨M2, e, f, k1, k2, p', k3, k4⟩ := q
      have hz : 0 < z.1 ∧ z.1 < 10 := by
        unfold nbS at hx
        split at hx
        · split at hx
          · cases hx
          · cases hx; exact ⟨show 0 < 2 by omega, show 2 < 10 by omega⟩
        · cases hx; exact ⟨show 0 < 1 by omega, show 1 < 10 by omega⟩
      exact ⟨_, M2, e, f, tSt_bad (h.1.fr f (fun k z => by have := z.1; omega) nz_p) ((f.i (by omega) (by unfold sWr; omega)).trans h.2.1) h.2.2.1 k3 k4 k1 hz k2, rfl⟩
  | inr e =>
    obtain ⟨h1, h2, h3⟩ := h.bad
    exact ⟨0, M, t_num0 h.1.1 h3, (fr.refl M).mono (fun _ _ z => z) (fun _ _ z => z) (Nat.le_refl _) (Nat.le_refl _), h, rfl⟩
theorem tS_wrong {k p : Nat} (h : tSt b M A L (.inl p)) (hk : 0 < k ∧ k < 10) (q : Nat) : ∃ M2, m_X10_wrong M (b + 54) (Int32.ofNat k) (Int32.ofNat q) = some ((), M2) ∧ fr (sWr b) nz 0 0 M M2 ∧ tSt b M2 A L (.inr (k, q)) := by
  obtain ⟨h48, h49, hp⟩ := h.ok
  have hn := shN h.1.1
  have f : fr (sWr b) nz 0 0 M (dwPI (dwPI M (b + 54) 49 (Int32.ofNat k)) (b + 54) 50 (Int32.ofNat q)) := ((fr.refl M).pI _ (Or.inl ⟨rfl, Or.inr (Or.inl rfl)⟩)).pI _ (Or.inl ⟨rfl, Or.inr (Or.inr rfl)⟩)
  refine ⟨_, t_wrong0 h.1.1 h49, f, tSt_bad (h.1.fr f (fun k z => by have := z.1; omega) nz_p) ((f.i (by omega) (by unfold sWr; omega)).trans h.2.1) h.2.2.1 hp ?_ ?_ hk di_eq⟩
  · rw [di_ne (by omega), di_ne (by omega)]; exact h48
  · rw [di_ne (by omega), di_eq]
theorem tS_sign {c : Nat} (h : tSt b M A L r) (hc : c < 128) : ∃ M2, m_X10_sign M (b + 54) (Int32.ofNat c) = some ((), M2) ∧ fr (sWr b) nz 0 0 M M2 ∧ tSt b M2 A L (sgR (xbN A) L c r) := by
  cases r with
  | inl p =>
    obtain ⟨h48, h49, hp⟩ := h.ok
    obtain ⟨M2, e, f, k⟩ := tS_bl h
    have k' : tSt b M2 A L (.inl (blS (xbN A) L p)) := k
    obtain ⟨g48, g49, gp⟩ := k'.ok
    have hb := t_byteAt k'.2.2.1 k'.1 k'.2.1 (show blS (xbN A) L p < 2147483648 by have := k'.1.2.1; have := k'.2.2.1; omega)
    have hcc := by32 (X := xbN A) (L := L) (q := blS (xbN A) L p) (c := c) (h.lt _) hc
    have hs := h.1.1
    have hs2 := k'.1.1
    have fW : fr (sWr b) nz 0 0 M M2 := f.mono (fun a k z => ⟨z.1, Or.inl z.2⟩) (fun _ _ z => z) (Nat.le_refl _) (Nat.le_refl _)
    show ∃ M2, _ ∧ _ ∧ tSt b M2 A L (sgS (xbN A) L c p)
    unfold sgS
    generalize blS (xbN A) L p = q at *
    by_cases hx : q < L ∧ xbN A q = c
    · rw [if_pos hx]
      have hcc' := eq_true (hcc.mpr hx)
      have f2 : fr (sPt b) nz 0 0 M2 (dwPI M2 (b + 54) 48 (Int32.ofNat (q + 1))) := (fr.refl M2).pI _ (Or.inl ⟨rfl, rfl⟩)
      have hn := shN hs2
      refine ⟨_, ?_, fW.t0 (f2.mono (fun a k z => ⟨z.1, Or.inl z.2⟩) (fun _ _ z => z) (Nat.le_refl _) (Nat.le_refl _)), tSt_ok (k'.1.fr f2 (fun k z => by have := z.1; omega) nz_p) ((f2.i (by omega) (by unfold sPt; omega)).trans k'.2.1) k'.2.2.1 (by omega) di_eq ((f2.i (by omega) (by unfold sPt; omega)).trans g49)⟩
      simp -implicitDefEqProofs only [m_X10_sign, ↓gp0_2, ↓gp0_3, ↓gp0_4, ↓gp0_5, ↓gp0_6, ↓gp0_7, ↓gp0_8, ↓gp0_9, ↓gp0_10, ↓gp0_18, ↓gp0_19, ↓gp0_20, ↓gp0_22, ↓gp23_43, ↓gp23_32, ↓gp23_33, ↓gp23_34, ↓gp23_35, ↓gp23_36, ↓gp29_43, ↓gp29_32, ↓gp29_33, ↓gp29_34, ↓gp29_35, ↓gp29_36, ↓gp54_53, ↓gp54_54, ↓gp54_55, ↓gp54_56, ↓gp54_57, ↓gp54_58, ↓gp54_59, ↓gp54_60, ↓gp54_61, ↓gp54_62, ↓gp54_65, ↓gp54_66, ↓gp54_67, ↓gp54_68, ↓gp54_69, ↓gp54_70, ↓gp54_71, ↓gp54_73, ↓gp54_74, ↓gp54_75, ↓gp54_76, ↓gp54_84, ↓gp54_85, ↓gp54_87, ↓gp54_88, ↓xr59, kr59, ↓xr67, kr67, ↓xr75, kr75, ↓xr82, kr82, ↓xr89, kr89, ↓xr102, kr102, ↓xr115, kr115, ↓xr276, kr276, ↓xr437, kr437, ↓xr444, kr444, ↓xr453, kr453, ↓xr536, kr536, ↓xr553, kr553, hs0, hw0, hs1, hw1, hs2, hw2, hs3, hw3, hs4, hw4, hs5, hw5, hs6, hw6, hs7, hw7, hs8, hw8, hs9, hw9, hs10, hw10, hs11, hw11, hs12, hw12, hs13, hw13, hs14, hw14, hs15, hw15, hs16, hw16, hs17, hw17, hs18, hw18, hs19, hw19, hs20, hw20, hs21, hw21, hs22, hw22, hs23, hw23, hs25, hw25, hs26, hw26, hs27, hw27, hs28, hw28, hs9b, hw9b, hs10b, hw10b, kd0, kd20, kd21, kd22, kd23, kd24, kd25, kd26, kd27, kd28, kd29, kd30, kd31, kd32, kd33, kd34, kd35, kd36, kd37, kd38, kd39, kd40, kd41, kd42, kd54, kd55, kd56, kd57, kd58, kd59, kd67, kd75, kd82, kd89, kd102, kd115, kd276, kd437, kd444, kd451, kd452, kd453, kd534, kd535, kd536, kd553, kd557, kd558, kd559, kd560, kd561, ↓xgI_u, ↓xpI_u, ↓xaI_u, ↓xsI_u, ↓xrk_u, ↓xrk0_u, ↓xob_v, ↓xmb_v, ↓xth_v, ↓xth_x, ↓jn_u, ↓xlen_u, ↓xaL_u, ↓xsL_u, ↓xbl_0, ↓xbl_1, eq_self, inb_n, inb_d, Sh_PI, Sh_PL, dk_PI, dk_PL, dr_PI, dr_PL, ↓reduceIte, Int32.reduceLE, Int32.reduceLT, Int32.reduceToNatClampNeg, Nat.reduceLT, Nat.reduceLeDiff, Nat.reduceEqDiff, Nat.reduceAdd, Nat.reduceMul, hs, hs2, h49, if_true, e, g48, hb, hcc', i_succ]
    · rw [if_neg hx]
      have hcc' := eq_false (fun z => hx (hcc.mp z))
      obtain ⟨M3, e3, f3, k3⟩ := tS_wrong (k := 1) k' (by omega) q
      have e3' : m_X10_wrong M2 (b + 54) 1 (Int32.ofNat q) = some ((), M3) := e3
      refine ⟨M3, ?_, fW.t0 f3, k3⟩
      simp -implicitDefEqProofs only [m_X10_sign, ↓gp0_2, ↓gp0_3, ↓gp0_4, ↓gp0_5, ↓gp0_6, ↓gp0_7, ↓gp0_8, ↓gp0_9, ↓gp0_10, ↓gp0_18, ↓gp0_19, ↓gp0_20, ↓gp0_22, ↓gp23_43, ↓gp23_32, ↓gp23_33, ↓gp23_34, ↓gp23_35, ↓gp23_36, ↓gp29_43, ↓gp29_32, ↓gp29_33, ↓gp29_34, ↓gp29_35, ↓gp29_36, ↓gp54_53, ↓gp54_54, ↓gp54_55, ↓gp54_56, ↓gp54_57, ↓gp54_58, ↓gp54_59, ↓gp54_60, ↓gp54_61, ↓gp54_62, ↓gp54_65, ↓gp54_66, ↓gp54_67, ↓gp54_68, ↓gp54_69, ↓gp54_70, ↓gp54_71, ↓gp54_73, ↓gp54_74, ↓gp54_75, ↓gp54_76, ↓gp54_84, ↓gp54_85, ↓gp54_87, ↓gp54_88, ↓xr59, kr59, ↓xr67, kr67, ↓xr75, kr75, ↓xr82, kr82, ↓xr89, kr89, ↓xr102, kr102, ↓xr115, kr115, ↓xr276, kr276, ↓xr437, kr437, ↓xr444, kr444, ↓xr453, kr453, ↓xr536, kr536, ↓xr553, kr553, hs0, hw0, hs1, hw1, hs2, hw2, hs3, hw3, hs4, hw4, hs5, hw5, hs6, hw6, hs7, hw7, hs8, hw8, hs9, hw9, hs10, hw10, hs11, hw11, hs12, hw12, hs13, hw13, hs14, hw14, hs15, hw15, hs16, hw16, hs17, hw17, hs18, hw18, hs19, hw19, hs20, hw20, hs21, hw21, hs22, hw22, hs23, hw23, hs25, hw25, hs26, hw26, hs27, hw27, hs28, hw28, hs9b, hw9b, hs10b, hw10b, kd0, kd20, kd21, kd22, kd23, kd24, kd25, kd26, kd27, kd28, kd29, kd30, kd31, kd32, kd33, kd34, kd35, kd36, kd37, kd38, kd39, kd40, kd41, kd42, kd54, kd55, kd56, kd57, kd58, kd59, kd67, kd75, kd82, kd89, kd102, kd115, kd276, kd437, kd444, kd451, kd452, kd453, kd534, kd535, kd536, kd553, kd557, kd558, kd559, kd560, kd561, ↓xgI_u, ↓xpI_u, ↓xaI_u, ↓xsI_u, ↓xrk_u, ↓xrk0_u, ↓xob_v, ↓xmb_v, ↓xth_v, ↓xth_x, ↓jn_u, ↓xlen_u, ↓xaL_u, ↓xsL_u, ↓xbl_0, ↓xbl_1, eq_self, inb_n, inb_d, Sh_PI, Sh_PL, dk_PI, dk_PL, dr_PI, dr_PL, ↓reduceIte, Int32.reduceLE, Int32.reduceLT, Int32.reduceToNatClampNeg, Nat.reduceLT, Nat.reduceLeDiff, Nat.reduceEqDiff, Nat.reduceAdd, Nat.reduceMul, hs, hs2, h49, if_true, e, g48, hb, hcc', if_false, e3']
  | inr e =>
    obtain ⟨h1, h2, h3⟩ := h.bad
    have hs := h.1.1
    refine ⟨M, ?_, (fr.refl M).mono (fun _ _ z => z) (fun _ _ z => z) (Nat.le_refl _) (Nat.le_refl _), h⟩
    simp -implicitDefEqProofs only [m_X10_sign, ↓gp0_2, ↓gp0_3, ↓gp0_4, ↓gp0_5, ↓gp0_6, ↓gp0_7, ↓gp0_8, ↓gp0_9, ↓gp0_10, ↓gp0_18, ↓gp0_19, ↓gp0_20, ↓gp0_22, ↓gp23_43, ↓gp23_32, ↓gp23_33, ↓gp23_34, ↓gp23_35, ↓gp23_36, ↓gp29_43, ↓gp29_32, ↓gp29_33, ↓gp29_34, ↓gp29_35, ↓gp29_36, ↓gp54_53, ↓gp54_54, ↓gp54_55, ↓gp54_56, ↓gp54_57, ↓gp54_58, ↓gp54_59, ↓gp54_60, ↓gp54_61, ↓gp54_62, ↓gp54_65, ↓gp54_66, ↓gp54_67, ↓gp54_68, ↓gp54_69, ↓gp54_70, ↓gp54_71, ↓gp54_73, ↓gp54_74, ↓gp54_75, ↓gp54_76, ↓gp54_84, ↓gp54_85, ↓gp54_87, ↓gp54_88, ↓xr59, kr59, ↓xr67, kr67, ↓xr75, kr75, ↓xr82, kr82, ↓xr89, kr89, ↓xr102, kr102, ↓xr115, kr115, ↓xr276, kr276, ↓xr437, kr437, ↓xr444, kr444, ↓xr453, kr453, ↓xr536, kr536, ↓xr553, kr553, hs0, hw0, hs1, hw1, hs2, hw2, hs3, hw3, hs4, hw4, hs5, hw5, hs6, hw6, hs7, hw7, hs8, hw8, hs9, hw9, hs10, hw10, hs11, hw11, hs12, hw12, hs13, hw13, hs14, hw14, hs15, hw15, hs16, hw16, hs17, hw17, hs18, hw18, hs19, hw19, hs20, hw20, hs21, hw21, hs22, hw22, hs23, hw23, hs25, hw25, hs26, hw26, hs27, hw27, hs28, hw28, hs9b, hw9b, hs10b, hw10b, kd0, kd20, kd21, kd22, kd23, kd24, kd25, kd26, kd27, kd28, kd29, kd30, kd31, kd32, kd33, kd34, kd35, kd36, kd37, kd38, kd39, kd40, kd41, kd42, kd54, kd55, kd56, kd57, kd58, kd59, kd67, kd75, kd82, kd89, kd102, kd115, kd276, kd437, kd444, kd451, kd452, kd453, kd534, kd535, kd536, kd553, kd557, kd558, kd559, kd560, kd561, ↓xgI_u, ↓xpI_u, ↓xaI_u, ↓xsI_u, ↓xrk_u, ↓xrk0_u, ↓xob_v, ↓xmb_v, ↓xth_v, ↓xth_x, ↓jn_u, ↓xlen_u, ↓xaL_u, ↓xsL_u, ↓xbl_0, ↓xbl_1, eq_self, inb_n, inb_d, Sh_PI, Sh_PL, dk_PI, dk_PL, dr_PI, dr_PL, ↓reduceIte, Int32.reduceLE, Int32.reduceLT, Int32.reduceToNatClampNeg, Nat.reduceLT, Nat.reduceLeDiff, Nat.reduceEqDiff, Nat.reduceAdd, Nat.reduceMul, hs, h3, if_false]
/-! a call begins to read -/
theorem tS_starts {n : Nat} (h : tpT b M A) (hL : n ≤ (aTx A).1) : ∃ M2, m_X10_starts M (b + 54) (Int32.ofNat n) = some ((), M2) ∧ fr (fun a k => a = b + 54 ∧ 45 ≤ k ∧ k ≤ 52 ∧ k ≠ 47) nz 0 0 M M2 ∧ tSt b M2 A n (.inl (blS (xbN A) n 0)) ∧ dwI M2 (b + 54) 45 = 0 ∧ dwI M2 (b + 54) 51 = 0 ∧ dwI M2 (b + 54) 52 = 0 := by
  have hn := shN h.1
  have hs := h.1
  have f : fr (fun a k => a = b + 54 ∧ 45 ≤ k ∧ k ≤ 52 ∧ k ≠ 47) nz 0 0 M (dwPI (dwPI (dwPI (dwPI (dwPI (dwPI (dwPI M (b + 54) 45 0) (b + 54) 46 (Int32.ofNat n)) (b + 54) 48 0) (b + 54) 49 0) (b + 54) 50 (-1)) (b + 54) 51 0) (b + 54) 52 0) := (((((((fr.refl M).pI _ (Or.inl (by omega))).pI _ (Or.inl (by omega))).pI _ (Or.inl (by omega))).pI _ (Or.inl (by omega))).pI _ (Or.inl (by omega))).pI _ (Or.inl (by omega))).pI _ (Or.inl (by omega))
  have k : tSt b (dwPI (dwPI (dwPI (dwPI (dwPI (dwPI (dwPI M (b + 54) 45 0) (b + 54) 46 (Int32.ofNat n)) (b + 54) 48 0) (b + 54) 49 0) (b + 54) 50 (-1)) (b + 54) 51 0) (b + 54) 52 0) A n (.inl 0) := by
    refine tSt_ok (h.fr f (fun k z => by omega) nz_p) ?_ hL (Nat.zero_le _) ?_ ?_
    · simp (disch := omega) only [di_ne, di_eq]
    · simp (disch := omega) only [di_ne, di_eq]; rfl
    · simp (disch := omega) only [di_ne, di_eq]
  obtain ⟨M2, e, f2, k2⟩ := tS_bl k
  have hn2 := shN k.1.1
  refine ⟨M2, ?_, f.t0 (f2.mono (fun a k z => by unfold sPt at z; omega) (fun _ _ z => z) (Nat.le_refl _) (Nat.le_refl _)), k2, ?_, ?_, ?_⟩
  · simp -implicitDefEqProofs only [m_X10_starts, ↓gp0_2, ↓gp0_3, ↓gp0_4, ↓gp0_5, ↓gp0_6, ↓gp0_7, ↓gp0_8, ↓gp0_9, ↓gp0_10, ↓gp0_18, ↓gp0_19, ↓gp0_20, ↓gp0_22, ↓gp23_43, ↓gp23_32, ↓gp23_33, ↓gp23_34, ↓gp23_35, ↓gp23_36, ↓gp29_43, ↓gp29_32, ↓gp29_33, ↓gp29_34, ↓gp29_35, ↓gp29_36, ↓gp54_53, ↓gp54_54, ↓gp54_55, ↓gp54_56, ↓gp54_57, ↓gp54_58, ↓gp54_59, ↓gp54_60, ↓gp54_61, ↓gp54_62, ↓gp54_65, ↓gp54_66, ↓gp54_67, ↓gp54_68, ↓gp54_69, ↓gp54_70, ↓gp54_71, ↓gp54_73, ↓gp54_74, ↓gp54_75, ↓gp54_76, ↓gp54_84, ↓gp54_85, ↓gp54_87, ↓gp54_88, ↓xr59, kr59, ↓xr67, kr67, ↓xr75, kr75, ↓xr82, kr82, ↓xr89, kr89, ↓xr102, kr102, ↓xr115, kr115, ↓xr276, kr276, ↓xr437, kr437, ↓xr444, kr444, ↓xr453, kr453, ↓xr536, kr536, ↓xr553, kr553, hs0, hw0, hs1, hw1, hs2, hw2, hs3, hw3, hs4, hw4, hs5, hw5, hs6, hw6, hs7, hw7, hs8, hw8, hs9, hw9, hs10, hw10, hs11, hw11, hs12, hw12, hs13, hw13, hs14, hw14, hs15, hw15, hs16, hw16, hs17, hw17, hs18, hw18, hs19, hw19, hs20, hw20, hs21, hw21, hs22, hw22, hs23, hw23, hs25, hw25, hs26, hw26, hs27, hw27, hs28, hw28, hs9b, hw9b, hs10b, hw10b, kd0, kd20, kd21, kd22, kd23, kd24, kd25, kd26, kd27, kd28, kd29, kd30, kd31, kd32, kd33, kd34, kd35, kd36, kd37, kd38, kd39, kd40, kd41, kd42, kd54, kd55, kd56, kd57, kd58, kd59, kd67, kd75, kd82, kd89, kd102, kd115, kd276, kd437, kd444, kd451, kd452, kd453, kd534, kd535, kd536, kd553, kd557, kd558, kd559, kd560, kd561, ↓xgI_u, ↓xpI_u, ↓xaI_u, ↓xsI_u, ↓xrk_u, ↓xrk0_u, ↓xob_v, ↓xmb_v, ↓xth_v, ↓xth_x, ↓jn_u, ↓xlen_u, ↓xaL_u, ↓xsL_u, ↓xbl_0, ↓xbl_1, eq_self, inb_n, inb_d, Sh_PI, Sh_PL, dk_PI, dk_PL, dr_PI, dr_PL, ↓reduceIte, Int32.reduceLE, Int32.reduceLT, Int32.reduceToNatClampNeg, Nat.reduceLT, Nat.reduceLeDiff, Nat.reduceEqDiff, Nat.reduceAdd, Nat.reduceMul, hs, e]
  · rw [f2.i (by omega) (by unfold sPt; omega)]; simp (disch := omega) only [di_ne, di_eq]
  · rw [f2.i (by omega) (by unfold sPt; omega)]; simp (disch := omega) only [di_ne, di_eq]
  · rw [f2.i (by omega) (by unfold sPt; omega)]; simp (disch := omega) only [di_ne, di_eq]
end READ
