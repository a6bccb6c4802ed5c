/-! READING, its bytes and blanks -/
def xbN (A : dvA) (k : Nat) : Nat := ((aTx A).2 k).toNatClampNeg
theorem b_int : ∀ v, v < 256 → (Int32.ofNat v).toInt8.toInt32.toInt = if v < 128 then (v : Int) else (v : Int) - 256 := by decide +kernel
theorem b_eq (v : Nat) (hv : v < 256) (c : Nat) (hc : c < 128) : (Int32.ofNat v).toInt8.toInt32 = Int32.ofNat c ↔ v = c := by
  rw [← Int32.toInt_inj, b_int v hv, i_toInt (by omega)]
  split <;> omega
theorem b_lt' (v : Nat) (hv : v < 256) (c : Nat) (hc : c < 128) : (Int32.ofNat v).toInt8.toInt32 < Int32.ofNat c ↔ v < c ∨ 128 ≤ v := by
  rw [Int32.lt_iff_toInt_lt, b_int v hv, i_toInt (by omega)]
  split <;> omega
theorem b_gt' (v : Nat) (hv : v < 256) (c : Nat) (hc : c < 128) : Int32.ofNat c < (Int32.ofNat v).toInt8.toInt32 ↔ c < v ∧ v < 128 := by
  rw [Int32.lt_iff_toInt_lt, b_int v hv, i_toInt (by omega)]
  split <;> omega
/-- where the blanks from p on end -/
def blF (X : Nat → Nat) (L : Nat) : Nat → Nat → Nat
  | 0, p => p
  | n + 1, p => if p < L ∧ X p = 32 then blF X L n (p + 1) else p
def blS (X : Nat → Nat) (L p : Nat) : Nat := blF X L (L - p) p
theorem blS_y {X : Nat → Nat} {L p : Nat} (h : p < L) (hx : X p = 32) : blS X L p = blS X L (p + 1) := by
  unfold blS
  rw [show L - p = (L - (p + 1)) + 1 by omega]
  show (if _ then _ else _) = _
  rw [if_pos ⟨h, hx⟩]
theorem blS_n {X : Nat → Nat} {L p : Nat} (h : ¬ (p < L ∧ X p = 32)) : blS X L p = p := by
  unfold blS
  cases L - p with
  | zero => rfl
  | succ n => show (if _ then _ else _) = _; rw [if_neg h]
theorem blS_le {X : Nat → Nat} {L : Nat} : ∀ n p, L - p = n → p ≤ blS X L p ∧ (p ≤ L → blS X L p ≤ L) := by
  intro n
  induction n with
  | zero => intro p h; rw [blS_n (by omega)]; exact ⟨Nat.le_refl _, fun q => q⟩
  | succ n ih =>
    intro p h
    by_cases hx : X p = 32
    · rw [blS_y (by omega) hx]
      obtain ⟨a, c⟩ := ih (p + 1) (by omega)
      exact ⟨by omega, fun q => c (by omega)⟩
    · rw [blS_n (fun q => hx q.2)]; exact ⟨Nat.le_refl _, fun q => q⟩
section READ
variable {b : Nat} {M : dwSt} {A : dvA} {ρ : Type}
/-- the tape as both have it -/
def tpC (b : Nat) (M : dwSt) (A : dvA) : Prop := Sh b M ∧ (aTx A).1 ≤ 600 ∧ ∀ k, k < (aTx A).1 → xbN A k < 256 ∧ dwI M (b + 39) k = (Int32.ofNat (xbN A k)).toInt8.toInt32
def tpT (b : Nat) (M : dwSt) (A : dvA) : Prop := Sh b M ∧ (aTx A).1 ≤ 600 ∧ ∀ k, k < (aTx A).1 → xbN A k < 256 ∧ dwI M (b + 55) k = Int32.ofNat (xbN A k)
theorem tpC_of {w : Nat → Nat} (h : CInv b w M A) : tpC b M A := by
  have o := h.1.ok.2.2.2.2.2.2.2
  refine ⟨h.1.sh, o.1, fun k hk => ?_⟩
  obtain ⟨v, h1, h2⟩ := o.2 k hk
  unfold xbN
  rw [h.1.tx.2 k hk, h2, i_nat (by omega)]
  exact ⟨h1, rfl⟩
theorem tpT_of (h : TInv b M A) : tpT b M A := by
  have o := h.1.ok.2.2.2.2.2.2.2
  refine ⟨h.1.sh, o.1, fun k hk => ?_⟩
  obtain ⟨v, h1, h2⟩ := o.2 k hk
  unfold xbN
  rw [h.1.tx.2 k hk, h2, i_nat (by omega)]
  exact ⟨h1, rfl⟩
def sPo (o : Nat) : Nat → Nat → Prop := fun a k => a = o ∧ k = 92
def sPt (b : Nat) : Nat → Nat → Prop := fun a k => a = b + 54 ∧ k = 48
theorem tpC.fr {S Z : Nat → Nat → Prop} {n u : Nat} {M1 : dwSt} (h : tpC b M A) (f : fr S Z n u M M1) (hS : ∀ k, ¬ S (b + 39) k) (hZ : ∀ a k, Z a k → ¬ ptr b a k) : tpC b M1 A := by
  have hn := shN h.1
  exact ⟨h.1.fr f hZ, h.2.1, fun k hk => ⟨(h.2.2 k hk).1, (f.i (by omega) (hS k)).trans (h.2.2 k hk).2⟩⟩
theorem tpT.fr {S Z : Nat → Nat → Prop} {n u : Nat} {M1 : dwSt} (h : tpT b M A) (f : fr S Z n u M M1) (hS : ∀ k, ¬ S (b + 55) k) (hZ : ∀ a k, Z a k → ¬ ptr b a k) : tpT b M1 A := by
  have hn := shN h.1
  exact ⟨h.1.fr f hZ, h.2.1, fun k hk => ⟨(h.2.2 k hk).1, (f.i (by omega) (hS k)).trans (h.2.2 k hk).2⟩⟩
/-- a reader of class ci at o, L bytes long, at p -/
def rdr (b : Nat) (M : dwSt) (o ci L : Nat) : Prop := o < dwN M ∧ b + 562 ≤ o ∧ (ci = 4 ∨ ci = 8 ∨ ci = 9 ∨ ci = 10) ∧ dwK M o = (0, ci) ∧ dwR M o 90 = some (b + 39) ∧ dwI M o 91 = Int32.ofNat L
theorem rdr.fr {S Z : Nat → Nat → Prop} {n u o ci L : Nat} {M1 : dwSt} (h : rdr b M o ci L) (f : fr S Z n u M M1) (hS : ¬ S o 91) (hZ : ¬ Z o 90) : rdr b M1 o ci L :=
  ⟨Nat.lt_of_lt_of_le h.1 f.n, h.2.1, h.2.2.1, (f.k h.1).trans h.2.2.2.1, (f.r h.1 hZ).trans h.2.2.2.2.1, (f.i h.1 hS).trans h.2.2.2.2.2⟩
theorem rdr_h {o ci L : Nat} (h : rdr b M o ci L) : (∀ f, 90 ≤ f → f ≤ 94 → dwHas (dwK M o) f = true ∧ dwHasW (dwK M o) f = true) := by
  intro f h1 h2
  rw [h.2.2.2.1]
  have : f = 90 ∨ f = 91 ∨ f = 92 ∨ f = 93 ∨ f = 94 := by omega
  rcases h.2.2.1 with rfl | rfl | rfl | rfl <;> rcases this with rfl | rfl | rfl | rfl | rfl <;> exact ⟨rfl, rfl⟩
theorem c_blanks {E : Option ρ → Prop} {K : dwSt → Option ρ} {o ci L : Nat} (hL : L ≤ (aTx A).1) : ∀ n p f (M1 : dwSt), L - p = n → n < f → p ≤ L → tpC b M1 A → rdr b M1 o ci L → dwI M1 o 92 = Int32.ofNat p → (∀ M2, fr (sPo o) nz 0 0 M1 M2 → dwI M2 o 92 = Int32.ofNat (blS (xbN A) L p) → E (K M2)) → E (L_X11_sign_0 o K f M1) := by
  intro n
  induction n with
  | zero =>
    intro p f M1 h1 h2 h3 ht hr hp hE
    obtain ⟨f', rfl⟩ : ∃ f', f = f' + 1 := ⟨f - 1, by omega⟩
    have g := rdr_h hr
    have : (Int32.ofNat L ≤ Int32.ofNat p) = True := by rw [show p = L by omega]; exact i_geT L
    rw [L_X11_sign_0, xgI_u (g 92 (by omega) (by omega)).1, xgI_u (g 91 (by omega) (by omega)).1, hp, hr.2.2.2.2.2, if_pos (of_eq_true this)]
    exact hE M1 (fr.refl M1) (by rw [hp, blS_n (by omega)])
  | succ n ih =>
    intro p f M1 h1 h2 h3 ht hr hp hE
    obtain ⟨f', rfl⟩ : ∃ f', f = f' + 1 := ⟨f - 1, by omega⟩
    have g := rdr_h hr
    have ho := ht.2.1
    have hlt : (Int32.ofNat L ≤ Int32.ofNat p) = False := i_geF (by omega) (by omega)
    obtain ⟨v1, v2⟩ := ht.2.2 p (by omega)
    rw [L_X11_sign_0, xgI_u (g 92 (by omega) (by omega)).1, xgI_u (g 91 (by omega) (by omega)).1, hp, hr.2.2.2.2.2, if_neg (of_eq_false hlt), xgR_v (g 90 (by omega) (by omega)).1 hr.2.2.2.2.1, xgI_u (g 92 (by omega) (by omega)).1, hp, xaB_u (by rw [kd39 ht.1]) (by rw [kd39 ht.1]; exact inb_n (by omega) (by omega)), i_nat (by omega), v2]
    by_cases hx : xbN A p = 32
    · have e32 : (Int32.ofNat (xbN A p)).toInt8.toInt32 = 32 := (b_eq _ v1 32 (by omega)).mpr hx
      rw [if_pos e32, xgI_u (g 92 (by omega) (by omega)).1, hp, i_succ, xpI_u (g 92 (by omega) (by omega)).2]
      have f1 : fr (sPo o) nz 0 0 M1 (dwPI M1 o 92 (Int32.ofNat (p + 1))) := (fr.refl M1).pI _ (Or.inl ⟨rfl, rfl⟩)
      have hob := hr.2.1
      refine ih (p + 1) f' _ (by omega) (by omega) (by omega) (ht.fr f1 (fun k q => by have := q.1; omega) nz_p) (hr.fr f1 (fun q => by have := q.2; omega) (fun q => q)) di_eq fun M2 f2 e2 => hE M2 (f1.t0 f2) ?_
      rw [e2, blS_y (by omega) hx]
    · have e32 : ¬ (Int32.ofNat (xbN A p)).toInt8.toInt32 = 32 := fun q => hx ((b_eq _ v1 32 (by omega)).mp q)
      rw [if_neg e32]
      exact hE M1 (fr.refl M1) (by rw [hp, blS_n (fun q => hx q.2)])
/-- what the component's sign() says; what the twin's byteAt says -/
def sgC (X : Nat → Nat) (L q : Nat) : Int32 := if q < L then (Int32.ofNat (X q)).toInt8.toInt32 else 0
def byT (X : Nat → Nat) (L q : Nat) : Int32 := if q < L then Int32.ofNat (X q) else -1
theorem c_sign {M1 : dwSt} {o ci L p : Nat} (hL : L ≤ (aTx A).1) (hp : p ≤ L) (ht : tpC b M1 A) (hr : rdr b M1 o ci L) (h : dwI M1 o 92 = Int32.ofNat p) : ∃ M2, m_X11_sign M1 o = some (sgC (xbN A) L (blS (xbN A) L p), M2) ∧ fr (sPo o) nz 0 0 M1 M2 ∧ dwI M2 o 92 = Int32.ofNat (blS (xbN A) L p) := by
  have ho := ht.2.1
  have hob := hr.2.1
  simp -implicitDefEqProofs only [m_X11_sign, jn_u]
  refine c_blanks (E := fun z => ∃ M2, z = some (sgC (xbN A) L (blS (xbN A) L p), M2) ∧ fr (sPo o) nz 0 0 M1 M2 ∧ dwI M2 o 92 = Int32.ofNat (blS (xbN A) L p)) hL (L - p) p 1000000 M1 rfl (by omega) hp ht hr h fun M2 f2 e2 => ⟨M2, ?_, f2, e2⟩
  have t2 := ht.fr f2 (fun k q => by have := q.1; omega) nz_p
  have r2 := hr.fr f2 (fun q => by have := q.2; omega) (fun q => q)
  have g := rdr_h r2
  have hq := (blS_le (X := xbN A) (L := L) _ p rfl).2 hp
  rw [xgI_u (g 92 (by omega) (by omega)).1, xgI_u (g 91 (by omega) (by omega)).1, e2, r2.2.2.2.2.2]
  unfold sgC
  generalize blS (xbN A) L p = q at *
  by_cases hlt : q < L
  · obtain ⟨v1, v2⟩ := t2.2.2 q (by omega)
    rw [if_neg (of_eq_false (i_geF hlt (by omega))), if_pos hlt, xgR_v (g 90 (by omega) (by omega)).1 r2.2.2.2.2.1, xgI_u (g 92 (by omega) (by omega)).1, e2, xaB_u (by rw [kd39 t2.1]) (by rw [kd39 t2.1]; exact inb_n (by omega) (by omega)), i_nat (by omega), v2]
  · rw [show q = L by omega, if_pos (of_eq_true (i_geT L)), if_neg (by omega)]
theorem t_byteAt {L q : Nat} (hL : L ≤ (aTx A).1) (ht : tpT b M A) (h46 : dwI M (b + 54) 46 = Int32.ofNat L) (hq : q < 2147483648) : m_X10_byteAt M (b + 54) (Int32.ofNat q) = some (byT (xbN A) L q) := by
  have ho := ht.2.1
  unfold byT
  by_cases h : q < L
  · obtain ⟨v1, v2⟩ := ht.2.2 q (by omega)
    have hlt : (Int32.ofNat q < Int32.ofNat L) = True := by rw [i_lt hq (by omega)]; exact eq_true h
    simp -implicitDefEqProofs only [m_X10_byteAt, ↓gp0_2, ↓gp0_3, ↓gp0_4, ↓gp0_5, ↓gp0_6, ↓gp0_7, ↓gp0_8, ↓gp0_9, ↓gp0_10, ↓gp0_18, ↓gp0_19, ↓gp0_20, ↓gp0_22, ↓gp23_43, ↓gp23_32, ↓gp23_33, ↓gp23_34, ↓gp23_35, ↓gp23_36, ↓gp29_43, ↓gp29_32, ↓gp29_33, ↓gp29_34, ↓gp29_35, ↓gp29_36, ↓gp54_53, ↓gp54_54, ↓gp54_55, ↓gp54_56, ↓gp54_57, ↓gp54_58, ↓gp54_59, ↓gp54_60, ↓gp54_61, ↓gp54_62, ↓gp54_65, ↓gp54_66, ↓gp54_67, ↓gp54_68, ↓gp54_69, ↓gp54_70, ↓gp54_71, ↓gp54_73, ↓gp54_74, ↓gp54_75, ↓gp54_76, ↓gp54_84, ↓gp54_85, ↓gp54_87, ↓gp54_88, ↓xr59, kr59, ↓xr67, kr67, ↓xr75, kr75, ↓xr82, kr82, ↓xr89, kr89, ↓xr102, kr102, ↓xr115, kr115, ↓xr276, kr276, ↓xr437, kr437, ↓xr444, kr444, ↓xr453, kr453, ↓xr536, kr536, ↓xr553, kr553, hs0, hw0, hs1, hw1, hs2, hw2, hs3, hw3, hs4, hw4, hs5, hw5, hs6, hw6, hs7, hw7, hs8, hw8, hs9, hw9, hs10, hw10, hs11, hw11, hs12, hw12, hs13, hw13, hs14, hw14, hs15, hw15, hs16, hw16, hs17, hw17, hs18, hw18, hs19, hw19, hs20, hw20, hs21, hw21, hs22, hw22, hs23, hw23, hs25, hw25, hs26, hw26, hs27, hw27, hs28, hw28, hs9b, hw9b, hs10b, hw10b, kd0, kd20, kd21, kd22, kd23, kd24, kd25, kd26, kd27, kd28, kd29, kd30, kd31, kd32, kd33, kd34, kd35, kd36, kd37, kd38, kd39, kd40, kd41, kd42, kd54, kd55, kd56, kd57, kd58, kd59, kd67, kd75, kd82, kd89, kd102, kd115, kd276, kd437, kd444, kd451, kd452, kd453, kd534, kd535, kd536, kd553, kd557, kd558, kd559, kd560, kd561, ↓xgI_u, ↓xpI_u, ↓xaI_u, ↓xsI_u, ↓xrk_u, ↓xrk0_u, ↓xob_v, ↓xmb_v, ↓xth_v, ↓xth_x, ↓jn_u, ↓xlen_u, ↓xaL_u, ↓xsL_u, ↓xbl_0, ↓xbl_1, eq_self, inb_n, inb_d, Sh_PI, Sh_PL, dk_PI, dk_PL, dr_PI, dr_PL, ↓reduceIte, Int32.reduceLE, Int32.reduceLT, Int32.reduceToNatClampNeg, Nat.reduceLT, Nat.reduceLeDiff, Nat.reduceEqDiff, Nat.reduceAdd, Nat.reduceMul, ht.1, h46, hlt, if_true, show q < 600 by omega, i_nat hq, v2, h]
  · have hlt : (Int32.ofNat q < Int32.ofNat L) = False := by rw [i_lt hq (by omega)]; exact eq_false h
    simp -implicitDefEqProofs only [m_X10_byteAt, ↓gp0_2, ↓gp0_3, ↓gp0_4, ↓gp0_5, ↓gp0_6, ↓gp0_7, ↓gp0_8, ↓gp0_9, ↓gp0_10, ↓gp0_18, ↓gp0_19, ↓gp0_20, ↓gp0_22, ↓gp23_43, ↓gp23_32, ↓gp23_33, ↓gp23_34, ↓gp23_35, ↓gp23_36, ↓gp29_43, ↓gp29_32, ↓gp29_33, ↓gp29_34, ↓gp29_35, ↓gp29_36, ↓gp54_53, ↓gp54_54, ↓gp54_55, ↓gp54_56, ↓gp54_57, ↓gp54_58, ↓gp54_59, ↓gp54_60, ↓gp54_61, ↓gp54_62, ↓gp54_65, ↓gp54_66, ↓gp54_67, ↓gp54_68, ↓gp54_69, ↓gp54_70, ↓gp54_71, ↓gp54_73, ↓gp54_74, ↓gp54_75, ↓gp54_76, ↓gp54_84, ↓gp54_85, ↓gp54_87, ↓gp54_88, ↓xr59, kr59, ↓xr67, kr67, ↓xr75, kr75, ↓xr82, kr82, ↓xr89, kr89, ↓xr102, kr102, ↓xr115, kr115, ↓xr276, kr276, ↓xr437, kr437, ↓xr444, kr444, ↓xr453, kr453, ↓xr536, kr536, ↓xr553, kr553, hs0, hw0, hs1, hw1, hs2, hw2, hs3, hw3, hs4, hw4, hs5, hw5, hs6, hw6, hs7, hw7, hs8, hw8, hs9, hw9, hs10, hw10, hs11, hw11, hs12, hw12, hs13, hw13, hs14, hw14, hs15, hw15, hs16, hw16, hs17, hw17, hs18, hw18, hs19, hw19, hs20, hw20, hs21, hw21, hs22, hw22, hs23, hw23, hs25, hw25, hs26, hw26, hs27, hw27, hs28, hw28, hs9b, hw9b, hs10b, hw10b, kd0, kd20, kd21, kd22, kd23, kd24, kd25, kd26, kd27, kd28, kd29, kd30, kd31, kd32, kd33, kd34, kd35, kd36, kd37, kd38, kd39, kd40, kd41, kd42, kd54, kd55, kd56, kd57, kd58, kd59, kd67, kd75, kd82, kd89, kd102, kd115, kd276, kd437, kd444, kd451, kd452, kd453, kd534, kd535, kd536, kd553, kd557, kd558, kd559, kd560, kd561, ↓xgI_u, ↓xpI_u, ↓xaI_u, ↓xsI_u, ↓xrk_u, ↓xrk0_u, ↓xob_v, ↓xmb_v, ↓xth_v, ↓xth_x, ↓jn_u, ↓xlen_u, ↓xaL_u, ↓xsL_u, ↓xbl_0, ↓xbl_1, eq_self, inb_n, inb_d, Sh_PI, Sh_PL, dk_PI, dk_PL, dr_PI, dr_PL, ↓reduceIte, Int32.reduceLE, Int32.reduceLT, Int32.reduceToNatClampNeg, Nat.reduceLT, Nat.reduceLeDiff, Nat.reduceEqDiff, Nat.reduceAdd, Nat.reduceMul, ht.1, h46, hlt, if_false, h]
theorem by32 {X : Nat → Nat} {L q c : Nat} (hX : q < L → X q < 256) (hc : c < 128) : (byT X L q = Int32.ofNat c) ↔ (q < L ∧ X q = c) := by
  unfold byT
  by_cases h : q < L
  · rw [if_pos h, i_inj (by have := hX h; omega) (by omega)]; exact ⟨fun e => ⟨h, e⟩, fun e => e.2⟩
  · rw [if_neg h]
    refine ⟨fun e => ?_, fun e => absurd e.1 h⟩
    have := congrArg Int32.toInt e
    rw [i_toInt (by omega)] at this
    have e1 : (-1 : Int32).toInt = -1 := rfl
    omega
theorem t_blanks {E : Option ρ → Prop} {K : dwSt → Option ρ} {L : Nat} (hL : L ≤ (aTx A).1) : ∀ n p f (M1 : dwSt), L - p = n → n < f → p ≤ L → tpT b M1 A → dwI M1 (b + 54) 46 = Int32.ofNat L → dwI M1 (b + 54) 48 = Int32.ofNat p → (∀ M2, fr (sPt b) nz 0 0 M1 M2 → dwI M2 (b + 54) 48 = Int32.ofNat (blS (xbN A) L p) → E (K M2)) → E (L_X10_blanks_0 (b + 54) K f M1) := by
  intro n
  induction n with
  | zero =>
    intro p f M1 h1 h2 h3 ht h46 hp hE
    obtain ⟨f', rfl⟩ : ∃ f', f = f' + 1 := ⟨f - 1, by omega⟩
    have ho := ht.2.1
    have hb := t_byteAt hL ht h46 (show p < 2147483648 by omega)
    have e32 : ¬ byT (xbN A) L p = 32 := fun q => by have := ((by32 (c := 32) (fun h => by omega) (by omega)).mp q).1; omega
    have h3' := ht.1
    simp -implicitDefEqProofs only [L_X10_blanks_0, ↓gp0_2, ↓gp0_3, ↓gp0_4, ↓gp0_5, ↓gp0_6, ↓gp0_7, ↓gp0_8, ↓gp0_9, ↓gp0_10, ↓gp0_18, ↓gp0_19, ↓gp0_20, ↓gp0_22, ↓gp23_43, ↓gp23_32, ↓gp23_33, ↓gp23_34, ↓gp23_35, ↓gp23_36, ↓gp29_43, ↓gp29_32, ↓gp29_33, ↓gp29_34, ↓gp29_35, ↓gp29_36, ↓gp54_53, ↓gp54_54, ↓gp54_55, ↓gp54_56, ↓gp54_57, ↓gp54_58, ↓gp54_59, ↓gp54_60, ↓gp54_61, ↓gp54_62, ↓gp54_65, ↓gp54_66, ↓gp54_67, ↓gp54_68, ↓gp54_69, ↓gp54_70, ↓gp54_71, ↓gp54_73, ↓gp54_74, ↓gp54_75, ↓gp54_76, ↓gp54_84, ↓gp54_85, ↓gp54_87, ↓gp54_88, ↓xr59, kr59, ↓xr67, kr67, ↓xr75, kr75, ↓xr82, kr82, ↓xr89, kr89, ↓xr102, kr102, ↓xr115, kr115, ↓xr276, kr276, ↓xr437, kr437, ↓xr444, kr444, ↓xr453, kr453, ↓xr536, kr536, ↓xr553, kr553, hs0, hw0, hs1, hw1, hs2, hw2, hs3, hw3, hs4, hw4, hs5, hw5, hs6, hw6, hs7, hw7, hs8, hw8, hs9, hw9, hs10, hw10, hs11, hw11, hs12, hw12, hs13, hw13, hs14, hw14, hs15, hw15, hs16, hw16, hs17, hw17, hs18, hw18, hs19, hw19, hs20, hw20, hs21, hw21, hs22, hw22, hs23, hw23, hs25, hw25, hs26, hw26, hs27, hw27, hs28, hw28, hs9b, hw9b, hs10b, hw10b, kd0, kd20, kd21, kd22, kd23, kd24, kd25, kd26, kd27, kd28, kd29, kd30, kd31, kd32, kd33, kd34, kd35, kd36, kd37, kd38, kd39, kd40, kd41, kd42, kd54, kd55, kd56, kd57, kd58, kd59, kd67, kd75, kd82, kd89, kd102, kd115, kd276, kd437, kd444, kd451, kd452, kd453, kd534, kd535, kd536, kd553, kd557, kd558, kd559, kd560, kd561, ↓xgI_u, ↓xpI_u, ↓xaI_u, ↓xsI_u, ↓xrk_u, ↓xrk0_u, ↓xob_v, ↓xmb_v, ↓xth_v, ↓xth_x, ↓jn_u, ↓xlen_u, ↓xaL_u, ↓xsL_u, ↓xbl_0, ↓xbl_1, eq_self, inb_n, inb_d, Sh_PI, Sh_PL, dk_PI, dk_PL, dr_PI, dr_PL, ↓reduceIte, Int32.reduceLE, Int32.reduceLT, Int32.reduceToNatClampNeg, Nat.reduceLT, Nat.reduceLeDiff, Nat.reduceEqDiff, Nat.reduceAdd, Nat.reduceMul, h3', hp, hb, e32, if_false]
    exact hE M1 (fr.refl M1) (by rw [hp, blS_n (by omega)])
  | succ n ih =>
    intro p f M1 h1 h2 h3 ht h46 hp hE
    obtain ⟨f', rfl⟩ : ∃ f', f = f' + 1 := ⟨f - 1, by omega⟩
    have ho := ht.2.1
    have hb := t_byteAt hL ht h46 (show p < 2147483648 by omega)
    have hv := (ht.2.2 p (by omega)).1
    have hiff := by32 (X := xbN A) (L := L) (q := p) (c := 32) (fun h => hv) (by omega)
    have h3' := ht.1
    by_cases hx : xbN A p = 32
    · have e32 : byT (xbN A) L p = 32 := hiff.mpr ⟨by omega, hx⟩
      have f1 : fr (sPt b) nz 0 0 M1 (dwPI M1 (b + 54) 48 (Int32.ofNat (p + 1))) := (fr.refl M1).pI _ (Or.inl ⟨rfl, rfl⟩)
      simp -implicitDefEqProofs only [L_X10_blanks_0, ↓gp0_2, ↓gp0_3, ↓gp0_4, ↓gp0_5, ↓gp0_6, ↓gp0_7, ↓gp0_8, ↓gp0_9, ↓gp0_10, ↓gp0_18, ↓gp0_19, ↓gp0_20, ↓gp0_22, ↓gp23_43, ↓gp23_32, ↓gp23_33, ↓gp23_34, ↓gp23_35, ↓gp23_36, ↓gp29_43, ↓gp29_32, ↓gp29_33, ↓gp29_34, ↓gp29_35, ↓gp29_36, ↓gp54_53, ↓gp54_54, ↓gp54_55, ↓gp54_56, ↓gp54_57, ↓gp54_58, ↓gp54_59, ↓gp54_60, ↓gp54_61, ↓gp54_62, ↓gp54_65, ↓gp54_66, ↓gp54_67, ↓gp54_68, ↓gp54_69, ↓gp54_70, ↓gp54_71, ↓gp54_73, ↓gp54_74, ↓gp54_75, ↓gp54_76, ↓gp54_84, ↓gp54_85, ↓gp54_87, ↓gp54_88, ↓xr59, kr59, ↓xr67, kr67, ↓xr75, kr75, ↓xr82, kr82, ↓xr89, kr89, ↓xr102, kr102, ↓xr115, kr115, ↓xr276, kr276, ↓xr437, kr437, ↓xr444, kr444, ↓xr453, kr453, ↓xr536, kr536, ↓xr553, kr553, hs0, hw0, hs1, hw1, hs2, hw2, hs3, hw3, hs4, hw4, hs5, hw5, hs6, hw6, hs7, hw7, hs8, hw8, hs9, hw9, hs10, hw10, hs11, hw11, hs12, hw12, hs13, hw13, hs14, hw14, hs15, hw15, hs16, hw16, hs17, hw17, hs18, hw18, hs19, hw19, hs20, hw20, hs21, hw21, hs22, hw22, hs23, hw23, hs25, hw25, hs26, hw26, hs27, hw27, hs28, hw28, hs9b, hw9b, hs10b, hw10b, kd0, kd20, kd21, kd22, kd23, kd24, kd25, kd26, kd27, kd28, kd29, kd30, kd31, kd32, kd33, kd34, kd35, kd36, kd37, kd38, kd39, kd40, kd41, kd42, kd54, kd55, kd56, kd57, kd58, kd59, kd67, kd75, kd82, kd89, kd102, kd115, kd276, kd437, kd444, kd451, kd452, kd453, kd534, kd535, kd536, kd553, kd557, kd558, kd559, kd560, kd561, ↓xgI_u, ↓xpI_u, ↓xaI_u, ↓xsI_u, ↓xrk_u, ↓xrk0_u, ↓xob_v, ↓xmb_v, ↓xth_v, ↓xth_x, ↓jn_u, ↓xlen_u, ↓xaL_u, ↓xsL_u, ↓xbl_0, ↓xbl_1, eq_self, inb_n, inb_d, Sh_PI, Sh_PL, dk_PI, dk_PL, dr_PI, dr_PL, ↓reduceIte, Int32.reduceLE, Int32.reduceLT, Int32.reduceToNatClampNeg, Nat.reduceLT, Nat.reduceLeDiff, Nat.reduceEqDiff, Nat.reduceAdd, Nat.reduceMul, h3', hp, hb, e32, if_true, i_succ]
      refine ih (p + 1) f' _ (by omega) (by omega) (by omega) (ht.fr f1 (fun k q => by have := q.1; omega) nz_p) (by rw [di_PI, if_neg (by omega)]; exact h46) di_eq fun M2 f2 e2 => hE M2 (f1.t0 f2) ?_
      rw [e2, blS_y (by omega) hx]
    · have e32 : ¬ byT (xbN A) L p = 32 := fun q => hx (hiff.mp q).2
      simp -implicitDefEqProofs only [L_X10_blanks_0, ↓gp0_2, ↓gp0_3, ↓gp0_4, ↓gp0_5, ↓gp0_6, ↓gp0_7, ↓gp0_8, ↓gp0_9, ↓gp0_10, ↓gp0_18, ↓gp0_19, ↓gp0_20, ↓gp0_22, ↓gp23_43, ↓gp23_32, ↓gp23_33, ↓gp23_34, ↓gp23_35, ↓gp23_36, ↓gp29_43, ↓gp29_32, ↓gp29_33, ↓gp29_34, ↓gp29_35, ↓gp29_36, ↓gp54_53, ↓gp54_54, ↓gp54_55, ↓gp54_56, ↓gp54_57, ↓gp54_58, ↓gp54_59, ↓gp54_60, ↓gp54_61, ↓gp54_62, ↓gp54_65, ↓gp54_66, ↓gp54_67, ↓gp54_68, ↓gp54_69, ↓gp54_70, ↓gp54_71, ↓gp54_73, ↓gp54_74, ↓gp54_75, ↓gp54_76, ↓gp54_84, ↓gp54_85, ↓gp54_87, ↓gp54_88, ↓xr59, kr59, ↓xr67, kr67, ↓xr75, kr75, ↓xr82, kr82, ↓xr89, kr89, ↓xr102, kr102, ↓xr115, kr115, ↓xr276, kr276, ↓xr437, kr437, ↓xr444, kr444, ↓xr453, kr453, ↓xr536, kr536, ↓xr553, kr553, hs0, hw0, hs1, hw1, hs2, hw2, hs3, hw3, hs4, hw4, hs5, hw5, hs6, hw6, hs7, hw7, hs8, hw8, hs9, hw9, hs10, hw10, hs11, hw11, hs12, hw12, hs13, hw13, hs14, hw14, hs15, hw15, hs16, hw16, hs17, hw17, hs18, hw18, hs19, hw19, hs20, hw20, hs21, hw21, hs22, hw22, hs23, hw23, hs25, hw25, hs26, hw26, hs27, hw27, hs28, hw28, hs9b, hw9b, hs10b, hw10b, kd0, kd20, kd21, kd22, kd23, kd24, kd25, kd26, kd27, kd28, kd29, kd30, kd31, kd32, kd33, kd34, kd35, kd36, kd37, kd38, kd39, kd40, kd41, kd42, kd54, kd55, kd56, kd57, kd58, kd59, kd67, kd75, kd82, kd89, kd102, kd115, kd276, kd437, kd444, kd451, kd452, kd453, kd534, kd535, kd536, kd553, kd557, kd558, kd559, kd560, kd561, ↓xgI_u, ↓xpI_u, ↓xaI_u, ↓xsI_u, ↓xrk_u, ↓xrk0_u, ↓xob_v, ↓xmb_v, ↓xth_v, ↓xth_x, ↓jn_u, ↓xlen_u, ↓xaL_u, ↓xsL_u, ↓xbl_0, ↓xbl_1, eq_self, inb_n, inb_d, Sh_PI, Sh_PL, dk_PI, dk_PL, dr_PI, dr_PL, ↓reduceIte, Int32.reduceLE, Int32.reduceLT, Int32.reduceToNatClampNeg, Nat.reduceLT, Nat.reduceLeDiff, Nat.reduceEqDiff, Nat.reduceAdd, Nat.reduceMul, h3', hp, hb, e32, if_false]
      exact hE M1 (fr.refl M1) (by rw [hp, blS_n (fun q => hx q.2)])
end READ
