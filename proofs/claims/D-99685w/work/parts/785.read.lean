/-! A LAW read: the twin's codes -/
def tCs (b : Nat) (M : dwSt) (cs : List (Int32 × Int32)) : Prop := dwI M (b + 54) 64 = Int32.ofNat cs.length ∧ ∀ k x, cs[k]? = some x → dwI M (b + 277 + k) 0 = x.1 ∧ dwI M (b + 277 + k) 1 = x.2
def sTm (b : Nat) : Nat → Nat → Prop := fun a k => (a = b + 54 ∧ (k = 48 ∨ k = 49 ∨ k = 50 ∨ k = 52 ∨ k = 64)) ∨ (b + 277 ≤ a ∧ a ≤ b + 436)
def tAt (b : Nat) (M : dwSt) (A : dvA) (L k : Nat) (pre : List (Int32 × Int32)) (p : Nat) : Prop := tSt b M A L (.inl p) ∧ tCs b M pre ∧ dwI M (b + 54) 52 = Int32.ofNat (6 - k) ∧ k ≤ 6 ∧ L ≤ 150 ∧ pre.length ≤ p
/-- the twin as it stands, at p or with a fault -/
def tQ (b : Nat) (M : dwSt) (A : dvA) (L k : Nat) (pre : List (Int32 × Int32)) (r : rsP) : Prop := match r with
  | .inl p => tAt b M A L k pre p
  | .inr e => tSt b M A L (.inr e)
def tQx (b : Nat) (M : dwSt) (A : dvA) (L k : Nat) (pre : List (Int32 × Int32)) (x : rsL) : Prop := tQ b M A L k (pre ++ (tmL x).1) (poL x)
def tZ (b : Nat) (A : dvA) (L k : Nat) (pre : List (Int32 × Int32)) (M : dwSt) (x : rsL) (z : Option (Unit × dwSt)) : Prop := ∃ M2, z = some ((), M2) ∧ fr (sTm b) nz 0 0 M M2 ∧ tQx b M2 A L k pre x
section LAW
variable {b : Nat} {M : dwSt} {A : dvA} {ρ : Type} {L k : Nat} {pre : List (Int32 × Int32)} {r : rsP}
theorem sPt_m {b : Nat} : ∀ a k, sPt b a k → sTm b a k := fun a k z => Or.inl ⟨z.1, Or.inl z.2⟩
theorem sWr_m {b : Nat} : ∀ a k, sWr b a k → sTm b a k := fun a k z => Or.inl ⟨z.1, by have := z.2; omega⟩
theorem tQ.st (h : tQ b M A L k pre r) : tSt b M A L r := by
  cases r with
  | inl p => exact h.1
  | inr e => exact h
theorem tCs.fr {S Z : Nat → Nat → Prop} {n u : Nat} {M1 : dwSt} (h : tCs b M pre) (hn : b + 562 ≤ dwN M) (hl : pre.length ≤ 160) (f : fr S Z n u M M1) (hS : ∀ a k, S a k → a = b + 54 ∧ k ≠ 64) : tCs b M1 pre := by
  refine ⟨(f.i (by omega) (fun z => (hS _ _ z).2 rfl)).trans h.1, fun k x hx => ?_⟩
  have hk : k < pre.length := by
    obtain ⟨z, _⟩ := List.getElem?_eq_some_iff.mp hx
    exact z
  obtain ⟨h1, h2⟩ := h.2 k x hx
  exact ⟨(f.i (by omega) (fun z => by have := (hS _ _ z).1; omega)).trans h1, (f.i (by omega) (fun z => by have := (hS _ _ z).1; omega)).trans h2⟩
theorem tAt.len {p : Nat} (h : tAt b M A L k pre p) : pre.length ≤ 150 := by
  have := h.1.ok.2.2
  have := h.2.2.2.2
  omega
theorem tAt.to {S Z : Nat → Nat → Prop} {p q n u : Nat} {M1 : dwSt} (h : tAt b M A L k pre p) (f : fr S Z n u M M1) (hS : ∀ a k, S a k → a = b + 54 ∧ k ≠ 64 ∧ k ≠ 52) (hq : pre.length ≤ q) (s : tSt b M1 A L (.inl q)) : tAt b M1 A L k pre q := by
  have hn := shN h.1.1.1
  have hl := h.len
  exact ⟨s, h.2.1.fr hn (by omega) f (fun a k z => ⟨(hS a k z).1, (hS a k z).2.1⟩), (f.i (by omega) (fun z => (hS _ _ z).2.2 rfl)).trans h.2.2.1, h.2.2.2.1, h.2.2.2.2.1, hq⟩
theorem q_sign {c : Nat} (h : tQ b M A L k pre r) (hc : c < 128) : ∃ M2, m_X10_sign M (b + 54) (Int32.ofNat c) = some ((), M2) ∧ fr (sTm b) nz 0 0 M M2 ∧ tQ b M2 A L k pre (sgR (xbN A) L c r) ∧ ∀ p, sgR (xbN A) L c r = .inl p → pre.length + 1 ≤ p := by
  obtain ⟨M2, e, f, s⟩ := tS_sign h.st hc
  refine ⟨M2, e, f.mono sWr_m (fun _ _ z => z) (Nat.le_refl _) (Nat.le_refl _), ?_, ?_⟩
  · cases r with
    | inr e => exact s
    | inl p =>
      have s' : tSt b M2 A L (sgS (xbN A) L c p) := s
      show tQ b M2 A L k pre (sgS (xbN A) L c p)
      cases hs : sgS (xbN A) L c p with
      | inr e => rw [hs] at s'; exact s'
      | inl q =>
        rw [hs] at s'
        have := (sgS_le hs).1
        have hp : pre.length ≤ p := h.2.2.2.2.2
        exact tAt.to h f (fun a k z => ⟨z.1, by have := z.2; omega⟩) (by omega) s'
  · intro q hq
    cases r with
    | inr e => cases hq
    | inl p =>
      have := (sgS_le (X := xbN A) (L := L) (c := c) (p := p) hq).1
      have hp : pre.length ≤ p := h.2.2.2.2.2
      omega
theorem q_notes {o v : Int32} (h : tQ b M A L k pre r) (hp : ∀ p, r = .inl p → pre.length + 1 ≤ p) : ∃ M2, m_X10_notes M (b + 54) o v = some ((), M2) ∧ fr (sTm b) nz 0 0 M M2 ∧ tQ b M2 A L k (pre ++ [(o, v)]) r := by
  cases r with
  | inr e =>
    have hs := (tSt.bad h).2.2
    have sh := (tQ.st h).1.1
    refine ⟨M, ?_, (fr.refl M), h⟩
    unfold m_X10_notes
    rw [xgI_u (by rw [kd54 sh]; rfl), if_neg hs]
  | inl p =>
    have hp := hp p rfl
    obtain ⟨h1, ⟨h2, h3⟩, h4, h5, h6, h7⟩ := h
    have hs := h1.1.1
    have hn := shN hs
    have h49 := h1.ok.2.1
    have hp2 := h1.ok.2.2
    have f1 : fr (fun a k => (a = b + 54 ∧ k = 64) ∨ (b + 277 ≤ a ∧ a ≤ b + 436)) nz 0 0 M (dwPI M (b + 277 + pre.length) 0 o) := (fr.refl M).pI _ (Or.inl (Or.inr ⟨by omega, by omega⟩))
    have s1 := hs.fr f1 nz_p
    have f2 := f1.pI (a := b + 277 + pre.length) (k := 1) v (Or.inl (Or.inr ⟨by omega, by omega⟩))
    have s2 := hs.fr f2 nz_p
    have f3 := f2.pI (a := b + 54) (k := 64) (Int32.ofNat (pre.length + 1)) (Or.inl (Or.inl ⟨rfl, rfl⟩))
    have kr := kr276 hs pre.length (by omega)
    have i64 : dwI (dwPI M (b + 277 + pre.length) 0 o) (b + 54) 64 = Int32.ofNat pre.length := by rw [di_ne (by omega)]; exact h2
    have i64' : dwI (dwPI (dwPI M (b + 277 + pre.length) 0 o) (b + 277 + pre.length) 1 v) (b + 54) 64 = Int32.ofNat pre.length := by rw [di_ne (by omega)]; exact i64
    refine ⟨_, ?_, f3.mono (fun a k z => by unfold sTm; omega) (fun _ _ z => z) (Nat.le_refl _) (Nat.le_refl _), ?_, ⟨?_, fun j x hx => ?_⟩, ?_, h5, h6, ?_⟩
    · unfold m_X10_notes
      rw [xgI_u (by rw [kd54 hs]; rfl), if_pos h49, gp54_66 hs, xgI_u (by rw [kd54 hs]; rfl), h2, xr276 hs (by omega), xsI_u (by rw [kr]) (by rw [kr]; exact inb_n (i := 0) (by omega) (by omega)), show (0 : Int32).toNatClampNeg = 0 from rfl, gp54_66 s1, xgI_u (by rw [kd54 s1]; rfl), i64, xr276 s1 (by omega), xsI_u (by rw [kr276 s1 pre.length (by omega)]) (by rw [kr276 s1 pre.length (by omega)]; exact inb_n (i := 1) (by omega) (by omega)), show (1 : Int32).toNatClampNeg = 1 from rfl, xgI_u (by rw [kd54 s2]; rfl), i64', i_succ, xpI_u (by rw [kd54 s2]; rfl)]
    · exact h1.fr f3 (fun k hk => by omega) (fun k => by omega) nz_p
    · rw [di_eq, List.length_append]; rfl
    · by_cases hj : j = pre.length
      · subst hj
        rw [List.getElem?_append_right (Nat.le_refl _), Nat.sub_self] at hx
        cases hx
        refine ⟨?_, ?_⟩
        · rw [di_ne (by omega), di_ne (by omega), di_eq]
        · rw [di_ne (by omega), di_eq]
      · have hlt : j < pre.length := by
          obtain ⟨z, _⟩ := List.getElem?_eq_some_iff.mp hx
          rw [List.length_append] at z
          have z' : j < pre.length + 1 := z
          omega
        rw [List.getElem?_append_left hlt] at hx
        obtain ⟨g1, g2⟩ := h3 j x hx
        refine ⟨?_, ?_⟩
        · rw [di_ne (by omega), di_ne (by omega), di_ne (by omega)]; exact g1
        · rw [di_ne (by omega), di_ne (by omega), di_ne (by omega)]; exact g2
    · rw [di_ne (by omega), di_ne (by omega), di_ne (by omega)]; exact h4
    · rw [List.length_append]; exact hp
theorem t_opens1 {q : Nat} (h : tAt b M A L k pre q) : (k = 0 → ∃ M2, m_X10_opensOne M (b + 54) = some (0, M2) ∧ fr (sTm b) nz 0 0 M M2 ∧ tSt b M2 A L (.inr (3, q))) ∧ (∀ k', k = k' + 1 → ∃ M2, m_X10_opensOne M (b + 54) = some (1, M2) ∧ fr (sTm b) nz 0 0 M M2 ∧ tAt b M2 A L k' pre q) := by
  obtain ⟨h1, h2, h4, h5, h6, h7⟩ := id h
  obtain ⟨g48, g49, gq⟩ := h1.ok
  have hs := h1.1.1
  have hn := shN hs
  have hx := h1.2.2.1
  have hx6 := h1.1.2.1
  refine ⟨fun e => ?_, fun k' e => ?_⟩
  · obtain ⟨M2, e2, f2, s2⟩ := tS_wrong (k := 3) h1 (by omega) q
    have e2' : m_X10_wrong M (b + 54) 3 (Int32.ofNat q) = some ((), M2) := e2
    refine ⟨M2, ?_, f2.mono sWr_m (fun _ _ z => z) (Nat.le_refl _) (Nat.le_refl _), s2⟩
    have hb := s2.bad.2.2
    have sh2 := s2.1.1
    unfold m_X10_opensOne
    rw [xgI_u (by rw [kd54 hs]; rfl), jn_u, jn_u, if_pos g49, xgI_u (by rw [kd54 hs]; rfl), h4, e, if_pos (show Int32.ofNat (6 - 0) = 6 from rfl), xgI_u (by rw [kd54 hs]; rfl), g48, xrk_u (kd54 hs), e2', xmb_v]
    dsimp only
    rw [xgI_u (by rw [kd54 sh2]; rfl), if_neg hb]
  · have f2 : fr (fun a k => a = b + 54 ∧ k = 52) nz 0 0 M (dwPI M (b + 54) 52 (Int32.ofNat (6 - k + 1))) := (fr.refl M).pI _ (Or.inl ⟨rfl, rfl⟩)
    have s2 := hs.fr f2 nz_p
    have t2 := h1.fr f2 (fun k hk => by omega) (fun k => by omega) nz_p
    have g49' := t2.ok.2.1
    refine ⟨_, ?_, f2.mono (fun a k z => Or.inl ⟨z.1, by have := z.2; omega⟩) (fun _ _ z => z) (Nat.le_refl _) (Nat.le_refl _), t2, h2.fr hn (by omega) f2 (fun a k z => ⟨z.1, by have := z.2; omega⟩), ?_, by omega, h6, h7⟩
    · unfold m_X10_opensOne
      rw [xgI_u (by rw [kd54 hs]; rfl), jn_u, jn_u, if_pos g49, xgI_u (by rw [kd54 hs]; rfl), h4, if_neg (show ¬ Int32.ofNat (6 - k) = 6 by rw [show (6 : Int32) = Int32.ofNat 6 from rfl, i_inj (by omega) (by omega)]; omega), xgI_u (by rw [kd54 hs]; rfl), if_pos g49, xgI_u (by rw [kd54 hs]; rfl), h4, i_succ, xpI_u (by rw [kd54 hs]; rfl)]
      dsimp only
      rw [xgI_u (by rw [kd54 s2]; rfl), g49', if_pos rfl]
    · rw [di_eq]; congr 1; omega
theorem q_close {k' : Nat} (h : tQ b M A L k' pre r) (hk : k = k' + 1) (hk6 : k ≤ 6) : ∀ {σ : Type} (K : dwSt → Option σ), ∃ M2, xgI M 52 (b + 54) (fun v26 => xpI M 52 (b + 54) (v26 - 1) K) = K M2 ∧ fr (sTm b) nz 0 0 M M2 ∧ tQ b M2 A L k pre r := by
  intro σ K
  have hs := h.st.1.1
  have hn := shN hs
  have f2 : fr (fun a k => a = b + 54 ∧ k = 52) nz 0 0 M (dwPI M (b + 54) 52 (dwI M (b + 54) 52 - 1)) := (fr.refl M).pI _ (Or.inl ⟨rfl, rfl⟩)
  refine ⟨_, ?_, f2.mono (fun a k z => Or.inl ⟨z.1, by have := z.2; omega⟩) (fun _ _ z => z) (Nat.le_refl _) (Nat.le_refl _), ?_⟩
  · rw [xgI_u (by rw [kd54 hs]; rfl), xpI_u (by rw [kd54 hs]; rfl)]
  · have t2 := h.st.fr f2 (fun k hk => by omega) (fun k => by omega) nz_p
    cases r with
    | inr e => exact t2
    | inl p =>
      have hl := tAt.len h
      obtain ⟨h1, h2, h4, h5, h6, h7⟩ := h
      refine ⟨t2, h2.fr hn (by omega) f2 (fun a k z => ⟨z.1, by have := z.2; omega⟩), ?_, hk6, h6, h7⟩
      rw [di_eq, h4, show (1 : Int32) = Int32.ofNat 1 from rfl, i_sub (by omega)]
      congr 1; omega
theorem t_takesS {c p : Nat} (h : tAt b M A L k pre p) (hc : c < 128) : ∃ M2, m_X10_takesSign M (b + 54) (Int32.ofNat c) = some (if blS (xbN A) L p < L ∧ xbN A (blS (xbN A) L p) = c then 1 else 0, M2) ∧ fr (sTm b) nz 0 0 M M2 ∧ tAt b M2 A L k pre (if blS (xbN A) L p < L ∧ xbN A (blS (xbN A) L p) = c then blS (xbN A) L p + 1 else blS (xbN A) L p) := by
  obtain ⟨M2, e, f, k0⟩ := tS_bl h.1
  have k' : tSt b M2 A L (.inl (blS (xbN A) L p)) := k0
  obtain ⟨g48, g49, gp⟩ := k'.ok
  have h49 := h.1.ok.2.1
  have hb := t_byteAt k'.2.2.1 k'.1 k'.2.1 (show blS (xbN A) L p < 2147483648 by have := k'.1.2.1; have := k'.2.2.1; omega)
  have hcc := by32 (X := xbN A) (L := L) (q := blS (xbN A) L p) (c := c) (h.1.lt _) hc
  have hs := h.1.1.1
  have hs2 := k'.1.1
  have hle := (blS_le (X := xbN A) (L := L) _ p rfl).1
  have hpl : pre.length ≤ p := h.2.2.2.2.2
  have h2 := h.to f (fun a k z => ⟨z.1, by have := z.2; omega⟩) (show pre.length ≤ blS (xbN A) L p by omega) k'
  generalize blS (xbN A) L p = q at *
  have fm := f.mono (S' := sTm b) (Z' := nz) sPt_m (fun _ _ z => z) (Nat.le_refl _) (Nat.le_refl _)
  by_cases hx : q < L ∧ xbN A q = c
  · have hcc' := eq_true (hcc.mpr hx)
    rw [if_pos hx, if_pos hx]
    have f2 : fr (sPt b) nz 0 0 M2 (dwPI M2 (b + 54) 48 (Int32.ofNat (q + 1))) := (fr.refl M2).pI _ (Or.inl ⟨rfl, rfl⟩)
    have hn := shN hs2
    refine ⟨_, ?_, fm.t0 (f2.mono sPt_m (fun _ _ z => z) (Nat.le_refl _) (Nat.le_refl _)), h2.to f2 (fun a k z => ⟨z.1, by have := z.2; omega⟩) (by omega) (tSt_ok (k'.1.fr f2 (fun k z => by have := z.1; omega) nz_p) ((f2.i (by omega) (by unfold sPt; omega)).trans k'.2.1) k'.2.2.1 (by omega) di_eq ((f2.i (by omega) (by unfold sPt; omega)).trans g49))⟩
    simp -implicitDefEqProofs only [m_X10_takesSign, ↓gp0_2, ↓gp0_3, ↓gp0_4, ↓gp0_5, ↓gp0_6, ↓gp0_7, ↓gp0_8, ↓gp0_9, ↓gp0_10, ↓gp0_18, ↓gp0_19, ↓gp0_20, ↓gp0_22, ↓gp23_43, ↓gp23_32, ↓gp23_33, ↓gp23_34, ↓gp23_35, ↓gp23_36, ↓gp29_43, ↓gp29_32, ↓gp29_33, ↓gp29_34, ↓gp29_35, ↓gp29_36, ↓gp54_53, ↓gp54_54, ↓gp54_55, ↓gp54_56, ↓gp54_57, ↓gp54_58, ↓gp54_59, ↓gp54_60, ↓gp54_61, ↓gp54_62, ↓gp54_65, ↓gp54_66, ↓gp54_67, ↓gp54_68, ↓gp54_69, ↓gp54_70, ↓gp54_71, ↓gp54_73, ↓gp54_74, ↓gp54_75, ↓gp54_76, ↓gp54_84, ↓gp54_85, ↓gp54_87, ↓gp54_88, ↓xr59, kr59, ↓xr67, kr67, ↓xr75, kr75, ↓xr82, kr82, ↓xr89, kr89, ↓xr102, kr102, ↓xr115, kr115, ↓xr276, kr276, ↓xr437, kr437, ↓xr444, kr444, ↓xr453, kr453, ↓xr536, kr536, ↓xr553, kr553, hs0, hw0, hs1, hw1, hs2, hw2, hs3, hw3, hs4, hw4, hs5, hw5, hs6, hw6, hs7, hw7, hs8, hw8, hs9, hw9, hs10, hw10, hs11, hw11, hs12, hw12, hs13, hw13, hs14, hw14, hs15, hw15, hs16, hw16, hs17, hw17, hs18, hw18, hs19, hw19, hs20, hw20, hs21, hw21, hs22, hw22, hs23, hw23, hs25, hw25, hs26, hw26, hs27, hw27, hs28, hw28, hs9b, hw9b, hs10b, hw10b, kd0, kd20, kd21, kd22, kd23, kd24, kd25, kd26, kd27, kd28, kd29, kd30, kd31, kd32, kd33, kd34, kd35, kd36, kd37, kd38, kd39, kd40, kd41, kd42, kd54, kd55, kd56, kd57, kd58, kd59, kd67, kd75, kd82, kd89, kd102, kd115, kd276, kd437, kd444, kd451, kd452, kd453, kd534, kd535, kd536, kd553, kd557, kd558, kd559, kd560, kd561, ↓xgI_u, ↓xpI_u, ↓xaI_u, ↓xsI_u, ↓xrk_u, ↓xrk0_u, ↓xob_v, ↓xmb_v, ↓xth_v, ↓xth_x, ↓jn_u, ↓xlen_u, ↓xaL_u, ↓xsL_u, ↓xbl_0, ↓xbl_1, eq_self, inb_n, inb_d, Sh_PI, Sh_PL, dk_PI, dk_PL, dr_PI, dr_PL, ↓reduceIte, Int32.reduceLE, Int32.reduceLT, Int32.reduceToNatClampNeg, Nat.reduceLT, Nat.reduceLeDiff, Nat.reduceEqDiff, Nat.reduceAdd, Nat.reduceMul, hs, hs2, h49, if_true, e, g48, hb, hcc', i_succ, e10, if_false]
  · have hcc' := eq_false (fun z => hx (hcc.mp z))
    rw [if_neg hx, if_neg hx]
    refine ⟨M2, ?_, fm, h2⟩
    simp -implicitDefEqProofs only [m_X10_takesSign, ↓gp0_2, ↓gp0_3, ↓gp0_4, ↓gp0_5, ↓gp0_6, ↓gp0_7, ↓gp0_8, ↓gp0_9, ↓gp0_10, ↓gp0_18, ↓gp0_19, ↓gp0_20, ↓gp0_22, ↓gp23_43, ↓gp23_32, ↓gp23_33, ↓gp23_34, ↓gp23_35, ↓gp23_36, ↓gp29_43, ↓gp29_32, ↓gp29_33, ↓gp29_34, ↓gp29_35, ↓gp29_36, ↓gp54_53, ↓gp54_54, ↓gp54_55, ↓gp54_56, ↓gp54_57, ↓gp54_58, ↓gp54_59, ↓gp54_60, ↓gp54_61, ↓gp54_62, ↓gp54_65, ↓gp54_66, ↓gp54_67, ↓gp54_68, ↓gp54_69, ↓gp54_70, ↓gp54_71, ↓gp54_73, ↓gp54_74, ↓gp54_75, ↓gp54_76, ↓gp54_84, ↓gp54_85, ↓gp54_87, ↓gp54_88, ↓xr59, kr59, ↓xr67, kr67, ↓xr75, kr75, ↓xr82, kr82, ↓xr89, kr89, ↓xr102, kr102, ↓xr115, kr115, ↓xr276, kr276, ↓xr437, kr437, ↓xr444, kr444, ↓xr453, kr453, ↓xr536, kr536, ↓xr553, kr553, hs0, hw0, hs1, hw1, hs2, hw2, hs3, hw3, hs4, hw4, hs5, hw5, hs6, hw6, hs7, hw7, hs8, hw8, hs9, hw9, hs10, hw10, hs11, hw11, hs12, hw12, hs13, hw13, hs14, hw14, hs15, hw15, hs16, hw16, hs17, hw17, hs18, hw18, hs19, hw19, hs20, hw20, hs21, hw21, hs22, hw22, hs23, hw23, hs25, hw25, hs26, hw26, hs27, hw27, hs28, hw28, hs9b, hw9b, hs10b, hw10b, kd0, kd20, kd21, kd22, kd23, kd24, kd25, kd26, kd27, kd28, kd29, kd30, kd31, kd32, kd33, kd34, kd35, kd36, kd37, kd38, kd39, kd40, kd41, kd42, kd54, kd55, kd56, kd57, kd58, kd59, kd67, kd75, kd82, kd89, kd102, kd115, kd276, kd437, kd444, kd451, kd452, kd453, kd534, kd535, kd536, kd553, kd557, kd558, kd559, kd560, kd561, ↓xgI_u, ↓xpI_u, ↓xaI_u, ↓xsI_u, ↓xrk_u, ↓xrk0_u, ↓xob_v, ↓xmb_v, ↓xth_v, ↓xth_x, ↓jn_u, ↓xlen_u, ↓xaL_u, ↓xsL_u, ↓xbl_0, ↓xbl_1, eq_self, inb_n, inb_d, Sh_PI, Sh_PL, dk_PI, dk_PL, dr_PI, dr_PL, ↓reduceIte, Int32.reduceLE, Int32.reduceLT, Int32.reduceToNatClampNeg, Nat.reduceLT, Nat.reduceLeDiff, Nat.reduceEqDiff, Nat.reduceAdd, Nat.reduceMul, hs, hs2, h49, if_true, e, g48, hb, hcc', if_false]
end LAW
