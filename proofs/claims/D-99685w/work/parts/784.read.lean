/-! A LAW read: the twin knows facts -/
theorem wdS_get {X : Nat → Nat} {L : Nat} : ∀ (i q : Nat) (v : Nat), (wdS X L q)[i]? = some v → X (q + i) = v ∧ q + i < L := by
  intro i
  induction i with
  | zero =>
    intro q v h
    by_cases c : q < L ∧ smN (X q)
    · rw [wdS_y c.1 c.2] at h
      exact ⟨Option.some.inj h, c.1⟩
    · rw [wdS_n c] at h; cases h
  | succ i ih =>
    intro q v h
    by_cases c : q < L ∧ smN (X q)
    · rw [wdS_y c.1 c.2] at h
      have := ih (q + 1) v h
      rw [show q + 1 + i = q + (i + 1) by omega] at this
      exact this
    · rw [wdS_n c] at h; cases h
theorem vl7_eq {ws : List Nat} {a : Nat} (h1 : ∀ v ∈ ws, smN v) (hl : ws.length = 7) (ha : ws[6]? = some a) : (vl6 0 0 ws = vlF 0 [100, 105, 109, 112, 108, 101] ∧ a = 115) ↔ ws = kwDimples := by
  match ws, hl with
  | [a0, a1, a2, a3, a4, a5, a6], _ =>
    have e : vl6 0 0 [a0, a1, a2, a3, a4, a5, a6] = vlF 0 [a0, a1, a2, a3, a4, a5] := rfl
    have ea : a6 = a := Option.some.inj ha
    rw [e]
    constructor
    · rintro ⟨z, z'⟩
      have := vl_inj _ [a0, a1, a2, a3, a4, a5] [100, 105, 109, 112, 108, 101] rfl (fun v hv => h1 v (by
        have : v ∈ [a0, a1, a2, a3, a4, a5] ++ [a6] := List.mem_append_left _ hv
        exact this)) (by decide +kernel) z
      have e2 : [a0, a1, a2, a3, a4, a5] ++ [a6] = [100, 105, 109, 112, 108, 101] ++ [115] := by rw [this, ea, z']
      exact e2
    · intro z
      have e2 : [a0, a1, a2, a3, a4, a5] ++ [a6] = [100, 105, 109, 112, 108, 101] ++ [115] := z
      have e3 := List.append_inj e2 rfl
      refine ⟨by rw [e3.1], ?_⟩
      have := e3.2
      rw [← ea]
      exact (List.cons.inj this).1
section READ
variable {b : Nat} {M : dwSt} {A : dvA} {ρ : Type} {L : Nat}
theorem t_sevenL {K : Int32 → Int32 → Option ρ} {x1 x2 : Int32} {p : Nat} (h : tSt b M A L (.inl p)) : ∀ n i u f, L - (p + i) = n → n < f → p + i ≤ L → L_X10_isSeven_18 M (b + 54) x1 x2 K f (Int32.ofNat u) (Int32.ofNat i) = K (Int32.ofNat (vl6 i u (wdS (xbN A) L (p + i)))) (Int32.ofNat (i + (wdS (xbN A) L (p + i)).length)) := by
  obtain ⟨g48, g49, gp⟩ := h.ok
  have hs := h.1.1
  have hL600 : L ≤ 600 := Nat.le_trans h.2.2.1 h.1.2.1
  intro n
  induction n with
  | zero =>
    intro i u f h1 h2 h3
    obtain ⟨f', rfl⟩ : ∃ f', f = f' + 1 := ⟨f - 1, by omega⟩
    have hb := t_byteAt h.2.2.1 h.1 h.2.1 (show p + i < 2147483648 by omega)
    have hd := t_sml (X := xbN A) (L := L) (q := p + i) (h.lt _)
    rw [if_neg (by omega)] at hd
    simp -implicitDefEqProofs only [L_X10_isSeven_18, ↓gp0_2, ↓gp0_3, ↓gp0_4, ↓gp0_5, ↓gp0_6, ↓gp0_7, ↓gp0_8, ↓gp0_9, ↓gp0_10, ↓gp0_18, ↓gp0_19, ↓gp0_20, ↓gp0_22, ↓gp23_43, ↓gp23_32, ↓gp23_33, ↓gp23_34, ↓gp23_35, ↓gp23_36, ↓gp29_43, ↓gp29_32, ↓gp29_33, ↓gp29_34, ↓gp29_35, ↓gp29_36, ↓gp54_53, ↓gp54_54, ↓gp54_55, ↓gp54_56, ↓gp54_57, ↓gp54_58, ↓gp54_59, ↓gp54_60, ↓gp54_61, ↓gp54_62, ↓gp54_65, ↓gp54_66, ↓gp54_67, ↓gp54_68, ↓gp54_69, ↓gp54_70, ↓gp54_71, ↓gp54_73, ↓gp54_74, ↓gp54_75, ↓gp54_76, ↓gp54_84, ↓gp54_85, ↓gp54_87, ↓gp54_88, ↓xr59, kr59, ↓xr67, kr67, ↓xr75, kr75, ↓xr82, kr82, ↓xr89, kr89, ↓xr102, kr102, ↓xr115, kr115, ↓xr276, kr276, ↓xr437, kr437, ↓xr444, kr444, ↓xr453, kr453, ↓xr536, kr536, ↓xr553, kr553, hs0, hw0, hs1, hw1, hs2, hw2, hs3, hw3, hs4, hw4, hs5, hw5, hs6, hw6, hs7, hw7, hs8, hw8, hs9, hw9, hs10, hw10, hs11, hw11, hs12, hw12, hs13, hw13, hs14, hw14, hs15, hw15, hs16, hw16, hs17, hw17, hs18, hw18, hs19, hw19, hs20, hw20, hs21, hw21, hs22, hw22, hs23, hw23, hs25, hw25, hs26, hw26, hs27, hw27, hs28, hw28, hs9b, hw9b, hs10b, hw10b, kd0, kd20, kd21, kd22, kd23, kd24, kd25, kd26, kd27, kd28, kd29, kd30, kd31, kd32, kd33, kd34, kd35, kd36, kd37, kd38, kd39, kd40, kd41, kd42, kd54, kd55, kd56, kd57, kd58, kd59, kd67, kd75, kd82, kd89, kd102, kd115, kd276, kd437, kd444, kd451, kd452, kd453, kd534, kd535, kd536, kd553, kd557, kd558, kd559, kd560, kd561, ↓xgI_u, ↓xpI_u, ↓xaI_u, ↓xsI_u, ↓xrk_u, ↓xrk0_u, ↓xob_v, ↓xmb_v, ↓xth_v, ↓xth_x, ↓jn_u, ↓xlen_u, ↓xaL_u, ↓xsL_u, ↓xbl_0, ↓xbl_1, eq_self, inb_n, inb_d, Sh_PI, Sh_PL, dk_PI, dk_PL, dr_PI, dr_PL, ↓reduceIte, Int32.reduceLE, Int32.reduceLT, Int32.reduceToNatClampNeg, Nat.reduceLT, Nat.reduceLeDiff, Nat.reduceEqDiff, Nat.reduceAdd, Nat.reduceMul, hs, g48, i_add, hb, hd, if_true]
    rw [wdS_n (by omega)]
    rfl
  | succ n ih =>
    intro i u f h1 h2 h3
    obtain ⟨f', rfl⟩ : ∃ f', f = f' + 1 := ⟨f - 1, by omega⟩
    have hb := t_byteAt h.2.2.1 h.1 h.2.1 (show p + i < 2147483648 by omega)
    have hd := t_sml (X := xbN A) (L := L) (q := p + i) (h.lt _)
    by_cases hx : smN (xbN A (p + i))
    · rw [if_pos ⟨by omega, hx⟩] at hd
      have e6 : ((6 : Int32) ≤ Int32.ofNat i) = (6 ≤ i) := by rw [show (6 : Int32) = Int32.ofNat 6 from rfl, i_le (by omega) (by omega)]
      have eb : byT (xbN A) L (p + i) = Int32.ofNat (xbN A (p + i)) := if_pos (by omega)
      have ev := i_vl u (xbN A (p + i)) hx.1
      simp -implicitDefEqProofs only [L_X10_isSeven_18, ↓gp0_2, ↓gp0_3, ↓gp0_4, ↓gp0_5, ↓gp0_6, ↓gp0_7, ↓gp0_8, ↓gp0_9, ↓gp0_10, ↓gp0_18, ↓gp0_19, ↓gp0_20, ↓gp0_22, ↓gp23_43, ↓gp23_32, ↓gp23_33, ↓gp23_34, ↓gp23_35, ↓gp23_36, ↓gp29_43, ↓gp29_32, ↓gp29_33, ↓gp29_34, ↓gp29_35, ↓gp29_36, ↓gp54_53, ↓gp54_54, ↓gp54_55, ↓gp54_56, ↓gp54_57, ↓gp54_58, ↓gp54_59, ↓gp54_60, ↓gp54_61, ↓gp54_62, ↓gp54_65, ↓gp54_66, ↓gp54_67, ↓gp54_68, ↓gp54_69, ↓gp54_70, ↓gp54_71, ↓gp54_73, ↓gp54_74, ↓gp54_75, ↓gp54_76, ↓gp54_84, ↓gp54_85, ↓gp54_87, ↓gp54_88, ↓xr59, kr59, ↓xr67, kr67, ↓xr75, kr75, ↓xr82, kr82, ↓xr89, kr89, ↓xr102, kr102, ↓xr115, kr115, ↓xr276, kr276, ↓xr437, kr437, ↓xr444, kr444, ↓xr453, kr453, ↓xr536, kr536, ↓xr553, kr553, hs0, hw0, hs1, hw1, hs2, hw2, hs3, hw3, hs4, hw4, hs5, hw5, hs6, hw6, hs7, hw7, hs8, hw8, hs9, hw9, hs10, hw10, hs11, hw11, hs12, hw12, hs13, hw13, hs14, hw14, hs15, hw15, hs16, hw16, hs17, hw17, hs18, hw18, hs19, hw19, hs20, hw20, hs21, hw21, hs22, hw22, hs23, hw23, hs25, hw25, hs26, hw26, hs27, hw27, hs28, hw28, hs9b, hw9b, hs10b, hw10b, kd0, kd20, kd21, kd22, kd23, kd24, kd25, kd26, kd27, kd28, kd29, kd30, kd31, kd32, kd33, kd34, kd35, kd36, kd37, kd38, kd39, kd40, kd41, kd42, kd54, kd55, kd56, kd57, kd58, kd59, kd67, kd75, kd82, kd89, kd102, kd115, kd276, kd437, kd444, kd451, kd452, kd453, kd534, kd535, kd536, kd553, kd557, kd558, kd559, kd560, kd561, ↓xgI_u, ↓xpI_u, ↓xaI_u, ↓xsI_u, ↓xrk_u, ↓xrk0_u, ↓xob_v, ↓xmb_v, ↓xth_v, ↓xth_x, ↓jn_u, ↓xlen_u, ↓xaL_u, ↓xsL_u, ↓xbl_0, ↓xbl_1, eq_self, inb_n, inb_d, Sh_PI, Sh_PL, dk_PI, dk_PL, dr_PI, dr_PL, ↓reduceIte, Int32.reduceLE, Int32.reduceLT, Int32.reduceToNatClampNeg, Nat.reduceLT, Nat.reduceLeDiff, Nat.reduceEqDiff, Nat.reduceAdd, Nat.reduceMul, hs, g48, i_add, hb, hd, e10, if_false, e6, i_succ]
      rw [wdS_y (by omega) hx, vl6, List.length_cons, show i + ((wdS (xbN A) L (p + i + 1)).length + 1) = i + 1 + (wdS (xbN A) L (p + (i + 1))).length by rw [Nat.add_assoc p i 1]; omega]
      by_cases c : 6 ≤ i
      · rw [if_pos c, if_pos c]
        exact ih (i + 1) u f' (by omega) (by omega) (by omega)
      · rw [if_neg c, if_neg c, eb, ev]
        exact ih (i + 1) _ f' (by omega) (by omega) (by omega)
    · rw [if_neg (fun z => hx z.2)] at hd
      simp -implicitDefEqProofs only [L_X10_isSeven_18, ↓gp0_2, ↓gp0_3, ↓gp0_4, ↓gp0_5, ↓gp0_6, ↓gp0_7, ↓gp0_8, ↓gp0_9, ↓gp0_10, ↓gp0_18, ↓gp0_19, ↓gp0_20, ↓gp0_22, ↓gp23_43, ↓gp23_32, ↓gp23_33, ↓gp23_34, ↓gp23_35, ↓gp23_36, ↓gp29_43, ↓gp29_32, ↓gp29_33, ↓gp29_34, ↓gp29_35, ↓gp29_36, ↓gp54_53, ↓gp54_54, ↓gp54_55, ↓gp54_56, ↓gp54_57, ↓gp54_58, ↓gp54_59, ↓gp54_60, ↓gp54_61, ↓gp54_62, ↓gp54_65, ↓gp54_66, ↓gp54_67, ↓gp54_68, ↓gp54_69, ↓gp54_70, ↓gp54_71, ↓gp54_73, ↓gp54_74, ↓gp54_75, ↓gp54_76, ↓gp54_84, ↓gp54_85, ↓gp54_87, ↓gp54_88, ↓xr59, kr59, ↓xr67, kr67, ↓xr75, kr75, ↓xr82, kr82, ↓xr89, kr89, ↓xr102, kr102, ↓xr115, kr115, ↓xr276, kr276, ↓xr437, kr437, ↓xr444, kr444, ↓xr453, kr453, ↓xr536, kr536, ↓xr553, kr553, hs0, hw0, hs1, hw1, hs2, hw2, hs3, hw3, hs4, hw4, hs5, hw5, hs6, hw6, hs7, hw7, hs8, hw8, hs9, hw9, hs10, hw10, hs11, hw11, hs12, hw12, hs13, hw13, hs14, hw14, hs15, hw15, hs16, hw16, hs17, hw17, hs18, hw18, hs19, hw19, hs20, hw20, hs21, hw21, hs22, hw22, hs23, hw23, hs25, hw25, hs26, hw26, hs27, hw27, hs28, hw28, hs9b, hw9b, hs10b, hw10b, kd0, kd20, kd21, kd22, kd23, kd24, kd25, kd26, kd27, kd28, kd29, kd30, kd31, kd32, kd33, kd34, kd35, kd36, kd37, kd38, kd39, kd40, kd41, kd42, kd54, kd55, kd56, kd57, kd58, kd59, kd67, kd75, kd82, kd89, kd102, kd115, kd276, kd437, kd444, kd451, kd452, kd453, kd534, kd535, kd536, kd553, kd557, kd558, kd559, kd560, kd561, ↓xgI_u, ↓xpI_u, ↓xaI_u, ↓xsI_u, ↓xrk_u, ↓xrk0_u, ↓xob_v, ↓xmb_v, ↓xth_v, ↓xth_x, ↓jn_u, ↓xlen_u, ↓xaL_u, ↓xsL_u, ↓xbl_0, ↓xbl_1, eq_self, inb_n, inb_d, Sh_PI, Sh_PL, dk_PI, dk_PL, dr_PI, dr_PL, ↓reduceIte, Int32.reduceLE, Int32.reduceLT, Int32.reduceToNatClampNeg, Nat.reduceLT, Nat.reduceLeDiff, Nat.reduceEqDiff, Nat.reduceAdd, Nat.reduceMul, hs, g48, i_add, hb, hd, if_true]
      rw [wdS_n (fun z => hx z.2)]
      rfl
theorem tS_seven {p : Nat} (h : tSt b M A L (.inl p)) : ∃ M2, m_X10_isSeven M (b + 54) (Int32.ofNat (vlF 0 [100, 105, 109, 112, 108, 101])) 115 = some (if wdS (xbN A) L (blS (xbN A) L p) = kwDimples then 1 else 0, M2) ∧ fr (sPt b) nz 0 0 M M2 ∧ tSt b M2 A L (.inl (if wdS (xbN A) L (blS (xbN A) L p) = kwDimples then blS (xbN A) L p + 7 else blS (xbN A) L p)) := by
  obtain ⟨g48, g49, gp⟩ := h.ok
  obtain ⟨M2, e, f, k0⟩ := tS_bl h
  have k : tSt b M2 A L (.inl (blS (xbN A) L p)) := k0
  have hs := h.1.1
  have hs2 := k.1.1
  have hL600 : L ≤ 600 := Nat.le_trans h.2.2.1 h.1.2.1
  have hq := k.ok.2.2
  have hsm := wdS_sm (X := xbN A) (L := L) _ (blS (xbN A) L p) rfl
  have q48 := k.ok.1
  generalize blS (xbN A) L p = q at *
  have hw := wdS_le (X := xbN A) (L := L) _ q rfl hq
  have hl := fun (K : Int32 → Int32 → Option (Int32 × dwSt)) x1 x2 => t_sevenL (K := K) (x1 := x1) (x2 := x2) k (L - (q + 0)) 0 0 1000000 rfl (by omega) (by omega)
  rw [Nat.add_zero, Nat.zero_add] at hl
  have hl' : ∀ (K : Int32 → Int32 → Option (Int32 × dwSt)) x1 x2, L_X10_isSeven_18 M2 (b + 54) x1 x2 K 1000000 0 0 = K (Int32.ofNat (vl6 0 0 (wdS (xbN A) L q))) (Int32.ofNat (wdS (xbN A) L q).length) := hl
  have e7 : (Int32.ofNat (wdS (xbN A) L q).length = 7) = ((wdS (xbN A) L q).length = 7) := propext (i_inj (b := 7) (by omega) (by omega))
  simp -implicitDefEqProofs only [m_X10_isSeven, ↓gp0_2, ↓gp0_3, ↓gp0_4, ↓gp0_5, ↓gp0_6, ↓gp0_7, ↓gp0_8, ↓gp0_9, ↓gp0_10, ↓gp0_18, ↓gp0_19, ↓gp0_20, ↓gp0_22, ↓gp23_43, ↓gp23_32, ↓gp23_33, ↓gp23_34, ↓gp23_35, ↓gp23_36, ↓gp29_43, ↓gp29_32, ↓gp29_33, ↓gp29_34, ↓gp29_35, ↓gp29_36, ↓gp54_53, ↓gp54_54, ↓gp54_55, ↓gp54_56, ↓gp54_57, ↓gp54_58, ↓gp54_59, ↓gp54_60, ↓gp54_61, ↓gp54_62, ↓gp54_65, ↓gp54_66, ↓gp54_67, ↓gp54_68, ↓gp54_69, ↓gp54_70, ↓gp54_71, ↓gp54_73, ↓gp54_74, ↓gp54_75, ↓gp54_76, ↓gp54_84, ↓gp54_85, ↓gp54_87, ↓gp54_88, ↓xr59, kr59, ↓xr67, kr67, ↓xr75, kr75, ↓xr82, kr82, ↓xr89, kr89, ↓xr102, kr102, ↓xr115, kr115, ↓xr276, kr276, ↓xr437, kr437, ↓xr444, kr444, ↓xr453, kr453, ↓xr536, kr536, ↓xr553, kr553, hs0, hw0, hs1, hw1, hs2, hw2, hs3, hw3, hs4, hw4, hs5, hw5, hs6, hw6, hs7, hw7, hs8, hw8, hs9, hw9, hs10, hw10, hs11, hw11, hs12, hw12, hs13, hw13, hs14, hw14, hs15, hw15, hs16, hw16, hs17, hw17, hs18, hw18, hs19, hw19, hs20, hw20, hs21, hw21, hs22, hw22, hs23, hw23, hs25, hw25, hs26, hw26, hs27, hw27, hs28, hw28, hs9b, hw9b, hs10b, hw10b, kd0, kd20, kd21, kd22, kd23, kd24, kd25, kd26, kd27, kd28, kd29, kd30, kd31, kd32, kd33, kd34, kd35, kd36, kd37, kd38, kd39, kd40, kd41, kd42, kd54, kd55, kd56, kd57, kd58, kd59, kd67, kd75, kd82, kd89, kd102, kd115, kd276, kd437, kd444, kd451, kd452, kd453, kd534, kd535, kd536, kd553, kd557, kd558, kd559, kd560, kd561, ↓xgI_u, ↓xpI_u, ↓xaI_u, ↓xsI_u, ↓xrk_u, ↓xrk0_u, ↓xob_v, ↓xmb_v, ↓xth_v, ↓xth_x, ↓jn_u, ↓xlen_u, ↓xaL_u, ↓xsL_u, ↓xbl_0, ↓xbl_1, eq_self, inb_n, inb_d, Sh_PI, Sh_PL, dk_PI, dk_PL, dr_PI, dr_PL, ↓reduceIte, Int32.reduceLE, Int32.reduceLT, Int32.reduceToNatClampNeg, Nat.reduceLT, Nat.reduceLeDiff, Nat.reduceEqDiff, Nat.reduceAdd, Nat.reduceMul, hs, hs2, g49, if_true, e, hl', e7]
  by_cases c7 : (wdS (xbN A) L q).length = 7
  · obtain ⟨a, ha⟩ : ∃ a, (wdS (xbN A) L q)[6]? = some a := ⟨_, List.getElem?_eq_getElem (by omega)⟩
    obtain ⟨x6, x6'⟩ := wdS_get 6 q a ha
    have hv := vl7_eq hsm c7 ha
    have hb := t_byteAt k.2.2.1 k.1 k.2.1 (show q + 6 < 2147483648 by omega)
    have hb' : m_X10_byteAt M2 (b + 54) (dwI M2 (b + 54) 48 + 6) = some (Int32.ofNat a) := by
      rw [q48, show (6 : Int32) = Int32.ofNat 6 from rfl, i_add, hb]
      unfold byT
      rw [if_pos x6', x6]
    have hvl : vl6 0 0 (wdS (xbN A) L q) < 387420489 := by
      have c3 : (27 : Nat) ^ 6 = 387420489 := by decide
      match wdS (xbN A) L q, c7, hsm with
      | [a0, a1, a2, a3, a4, a5, a6], _, hsm =>
        have d1 := vl_lt [a0, a1, a2, a3, a4, a5] (fun v hv => hsm v (by
          have : v ∈ [a0, a1, a2, a3, a4, a5] ++ [a6] := List.mem_append_left _ hv
          exact this)) 0 0 (by omega)
        have d2 : vlF 0 [a0, a1, a2, a3, a4, a5] < 27 ^ 6 := d1
        rw [c3] at d2
        exact d2
    have hvv : vlF 0 [100, 105, 109, 112, 108, 101] < 387420489 := by decide +kernel
    have hiv : (Int32.ofNat (vl6 0 0 (wdS (xbN A) L q)) = Int32.ofNat (vlF 0 [100, 105, 109, 112, 108, 101])) ↔ vl6 0 0 (wdS (xbN A) L q) = vlF 0 [100, 105, 109, 112, 108, 101] := i_inj (by omega) (by omega)
    have ha256 : a < 256 := by rw [← x6]; exact k.lt _ x6'
    have hia : (Int32.ofNat a = 115) ↔ a = 115 := i_inj (b := 115) (by omega) (by omega)
    obtain ⟨M3, e3, f3, k3⟩ := tS_skip k
    by_cases c : wdS (xbN A) L q = kwDimples
    · obtain ⟨z1, z2⟩ := hv.mpr c
      rw [if_pos c, if_pos c, if_pos c7, if_pos (hiv.mpr z1)]
      rw [c7] at k3
      refine ⟨M3, ?_, f.t0 f3, k3⟩
      rw [hb', xob_v, if_pos (hia.mpr z2), if_neg (show ¬ (1 : Int32) = 0 by decide), e3, xmb_v]
    · rw [if_neg c, if_neg c, if_pos c7]
      refine ⟨M2, ?_, f, k⟩
      by_cases z1 : vl6 0 0 (wdS (xbN A) L q) = vlF 0 [100, 105, 109, 112, 108, 101]
      · have z2 : ¬ a = 115 := fun z => c (hv.mp ⟨z1, z⟩)
        rw [if_pos (hiv.mpr z1), hb', xob_v, if_neg (fun z => z2 (hia.mp z))]
      · rw [if_neg (fun z => z1 (hiv.mp z))]
  · have c : ¬ wdS (xbN A) L q = kwDimples := fun z => c7 (by rw [z]; rfl)
    rw [if_neg c, if_neg c, if_neg c7]
    exact ⟨M2, rfl, f, k⟩

theorem t_knHere {q : Nat} (h : tSt b M A L (.inl q)) (hbl : blS (xbN A) L q = q) (n1 : ¬ wdS (xbN A) L q = kwLeast) (n2 : ¬ wdS (xbN A) L q = kwMost) : ∃ M2, m_X10_knownHere M (b + 54) = some (unV (xbN A) L q, M2) ∧ fr (sPt b) nz 0 0 M M2 ∧ tSt b M2 A L (.inl (if unV (xbN A) L q = -1 then q else q + (wdS (xbN A) L q).length)) := by
  have hs := h.1.1
  have h6 : m_X10_six 4 9 13 16 12 5 = some (Int32.ofNat (vlF 0 [100, 105, 109, 112, 108, 101])) := by decide +kernel
  have tk : ∀ cs : List Nat, cs.length < 10 → ((wdS (xbN A) L q).take 10 = cs ↔ wdS (xbN A) L q = cs) := fun cs hc => by
    constructor
    · intro e
      have hl := congrArg List.length e
      rw [List.length_take] at hl
      rw [List.take_of_length_le (by omega)] at e
      exact e
    · intro e; rw [e, List.take_of_length_le (by omega)]
  obtain ⟨M1, g1, f1, k1⟩ := tS_takes (cs := kwStrong) (a1 := 19) (a2 := 20) (a3 := 18) (a4 := 15) (a5 := 14) (a6 := 7) h (by decide +kernel) (by decide +kernel) (by decide +kernel)
  rw [hbl] at g1 k1
  have s1_ := k1.1.1
  by_cases c1 : wdS (xbN A) L q = kwStrong
  · rw [if_pos c1] at g1 k1
    have hU : unV (xbN A) L q = 0 := by unfold unV; rw [c1]; decide +kernel
    rw [hU, if_neg (show ¬ (0 : Int32) = -1 by decide), c1]
    refine ⟨M1, ?_, f1, k1⟩
    simp -implicitDefEqProofs only [m_X10_knownHere, ↓gp0_2, ↓gp0_3, ↓gp0_4, ↓gp0_5, ↓gp0_6, ↓gp0_7, ↓gp0_8, ↓gp0_9, ↓gp0_10, ↓gp0_18, ↓gp0_19, ↓gp0_20, ↓gp0_22, ↓gp23_43, ↓gp23_32, ↓gp23_33, ↓gp23_34, ↓gp23_35, ↓gp23_36, ↓gp29_43, ↓gp29_32, ↓gp29_33, ↓gp29_34, ↓gp29_35, ↓gp29_36, ↓gp54_53, ↓gp54_54, ↓gp54_55, ↓gp54_56, ↓gp54_57, ↓gp54_58, ↓gp54_59, ↓gp54_60, ↓gp54_61, ↓gp54_62, ↓gp54_65, ↓gp54_66, ↓gp54_67, ↓gp54_68, ↓gp54_69, ↓gp54_70, ↓gp54_71, ↓gp54_73, ↓gp54_74, ↓gp54_75, ↓gp54_76, ↓gp54_84, ↓gp54_85, ↓gp54_87, ↓gp54_88, ↓xr59, kr59, ↓xr67, kr67, ↓xr75, kr75, ↓xr82, kr82, ↓xr89, kr89, ↓xr102, kr102, ↓xr115, kr115, ↓xr276, kr276, ↓xr437, kr437, ↓xr444, kr444, ↓xr453, kr453, ↓xr536, kr536, ↓xr553, kr553, hs0, hw0, hs1, hw1, hs2, hw2, hs3, hw3, hs4, hw4, hs5, hw5, hs6, hw6, hs7, hw7, hs8, hw8, hs9, hw9, hs10, hw10, hs11, hw11, hs12, hw12, hs13, hw13, hs14, hw14, hs15, hw15, hs16, hw16, hs17, hw17, hs18, hw18, hs19, hw19, hs20, hw20, hs21, hw21, hs22, hw22, hs23, hw23, hs25, hw25, hs26, hw26, hs27, hw27, hs28, hw28, hs9b, hw9b, hs10b, hw10b, kd0, kd20, kd21, kd22, kd23, kd24, kd25, kd26, kd27, kd28, kd29, kd30, kd31, kd32, kd33, kd34, kd35, kd36, kd37, kd38, kd39, kd40, kd41, kd42, kd54, kd55, kd56, kd57, kd58, kd59, kd67, kd75, kd82, kd89, kd102, kd115, kd276, kd437, kd444, kd451, kd452, kd453, kd534, kd535, kd536, kd553, kd557, kd558, kd559, kd560, kd561, ↓xgI_u, ↓xpI_u, ↓xaI_u, ↓xsI_u, ↓xrk_u, ↓xrk0_u, ↓xob_v, ↓xmb_v, ↓xth_v, ↓xth_x, ↓jn_u, ↓xlen_u, ↓xaL_u, ↓xsL_u, ↓xbl_0, ↓xbl_1, eq_self, inb_n, inb_d, Sh_PI, Sh_PL, dk_PI, dk_PL, dr_PI, dr_PL, ↓reduceIte, Int32.reduceLE, Int32.reduceLT, Int32.reduceToNatClampNeg, Nat.reduceLT, Nat.reduceLeDiff, Nat.reduceEqDiff, Nat.reduceAdd, Nat.reduceMul, hs, g1, s1_, h6, if_true, e10, if_false]
  rw [if_neg c1] at g1 k1
  obtain ⟨M2, g2, f2, k2⟩ := tS_takes (cs := kwApart) (a1 := 1) (a2 := 16) (a3 := 1) (a4 := 18) (a5 := 20) (a6 := 0) k1 (by decide +kernel) (by decide +kernel) (by decide +kernel)
  rw [hbl] at g2 k2
  have s2_ := k2.1.1
  by_cases c2 : wdS (xbN A) L q = kwApart
  · rw [if_pos c2] at g2 k2
    have hU : unV (xbN A) L q = 1 := by unfold unV; rw [c2]; decide +kernel
    rw [hU, if_neg (show ¬ (1 : Int32) = -1 by decide), c2]
    refine ⟨M2, ?_, (f1).t0 f2, k2⟩
    simp -implicitDefEqProofs only [m_X10_knownHere, ↓gp0_2, ↓gp0_3, ↓gp0_4, ↓gp0_5, ↓gp0_6, ↓gp0_7, ↓gp0_8, ↓gp0_9, ↓gp0_10, ↓gp0_18, ↓gp0_19, ↓gp0_20, ↓gp0_22, ↓gp23_43, ↓gp23_32, ↓gp23_33, ↓gp23_34, ↓gp23_35, ↓gp23_36, ↓gp29_43, ↓gp29_32, ↓gp29_33, ↓gp29_34, ↓gp29_35, ↓gp29_36, ↓gp54_53, ↓gp54_54, ↓gp54_55, ↓gp54_56, ↓gp54_57, ↓gp54_58, ↓gp54_59, ↓gp54_60, ↓gp54_61, ↓gp54_62, ↓gp54_65, ↓gp54_66, ↓gp54_67, ↓gp54_68, ↓gp54_69, ↓gp54_70, ↓gp54_71, ↓gp54_73, ↓gp54_74, ↓gp54_75, ↓gp54_76, ↓gp54_84, ↓gp54_85, ↓gp54_87, ↓gp54_88, ↓xr59, kr59, ↓xr67, kr67, ↓xr75, kr75, ↓xr82, kr82, ↓xr89, kr89, ↓xr102, kr102, ↓xr115, kr115, ↓xr276, kr276, ↓xr437, kr437, ↓xr444, kr444, ↓xr453, kr453, ↓xr536, kr536, ↓xr553, kr553, hs0, hw0, hs1, hw1, hs2, hw2, hs3, hw3, hs4, hw4, hs5, hw5, hs6, hw6, hs7, hw7, hs8, hw8, hs9, hw9, hs10, hw10, hs11, hw11, hs12, hw12, hs13, hw13, hs14, hw14, hs15, hw15, hs16, hw16, hs17, hw17, hs18, hw18, hs19, hw19, hs20, hw20, hs21, hw21, hs22, hw22, hs23, hw23, hs25, hw25, hs26, hw26, hs27, hw27, hs28, hw28, hs9b, hw9b, hs10b, hw10b, kd0, kd20, kd21, kd22, kd23, kd24, kd25, kd26, kd27, kd28, kd29, kd30, kd31, kd32, kd33, kd34, kd35, kd36, kd37, kd38, kd39, kd40, kd41, kd42, kd54, kd55, kd56, kd57, kd58, kd59, kd67, kd75, kd82, kd89, kd102, kd115, kd276, kd437, kd444, kd451, kd452, kd453, kd534, kd535, kd536, kd553, kd557, kd558, kd559, kd560, kd561, ↓xgI_u, ↓xpI_u, ↓xaI_u, ↓xsI_u, ↓xrk_u, ↓xrk0_u, ↓xob_v, ↓xmb_v, ↓xth_v, ↓xth_x, ↓jn_u, ↓xlen_u, ↓xaL_u, ↓xsL_u, ↓xbl_0, ↓xbl_1, eq_self, inb_n, inb_d, Sh_PI, Sh_PL, dk_PI, dk_PL, dr_PI, dr_PL, ↓reduceIte, Int32.reduceLE, Int32.reduceLT, Int32.reduceToNatClampNeg, Nat.reduceLT, Nat.reduceLeDiff, Nat.reduceEqDiff, Nat.reduceAdd, Nat.reduceMul, hs, g1, s1_, g2, s2_, h6, if_true, e10, if_false]
  rw [if_neg c2] at g2 k2
  obtain ⟨M3, g3, f3, k3⟩ := tS_takes (cs := kwWorn) (a1 := 23) (a2 := 15) (a3 := 18) (a4 := 14) (a5 := 0) (a6 := 0) k2 (by decide +kernel) (by decide +kernel) (by decide +kernel)
  rw [hbl] at g3 k3
  have s3_ := k3.1.1
  by_cases c3 : wdS (xbN A) L q = kwWorn
  · rw [if_pos c3] at g3 k3
    have hU : unV (xbN A) L q = 2 := by unfold unV; rw [c3]; decide +kernel
    rw [hU, if_neg (show ¬ (2 : Int32) = -1 by decide), c3]
    refine ⟨M3, ?_, ((f1).t0 f2).t0 f3, k3⟩
    simp -implicitDefEqProofs only [m_X10_knownHere, ↓gp0_2, ↓gp0_3, ↓gp0_4, ↓gp0_5, ↓gp0_6, ↓gp0_7, ↓gp0_8, ↓gp0_9, ↓gp0_10, ↓gp0_18, ↓gp0_19, ↓gp0_20, ↓gp0_22, ↓gp23_43, ↓gp23_32, ↓gp23_33, ↓gp23_34, ↓gp23_35, ↓gp23_36, ↓gp29_43, ↓gp29_32, ↓gp29_33, ↓gp29_34, ↓gp29_35, ↓gp29_36, ↓gp54_53, ↓gp54_54, ↓gp54_55, ↓gp54_56, ↓gp54_57, ↓gp54_58, ↓gp54_59, ↓gp54_60, ↓gp54_61, ↓gp54_62, ↓gp54_65, ↓gp54_66, ↓gp54_67, ↓gp54_68, ↓gp54_69, ↓gp54_70, ↓gp54_71, ↓gp54_73, ↓gp54_74, ↓gp54_75, ↓gp54_76, ↓gp54_84, ↓gp54_85, ↓gp54_87, ↓gp54_88, ↓xr59, kr59, ↓xr67, kr67, ↓xr75, kr75, ↓xr82, kr82, ↓xr89, kr89, ↓xr102, kr102, ↓xr115, kr115, ↓xr276, kr276, ↓xr437, kr437, ↓xr444, kr444, ↓xr453, kr453, ↓xr536, kr536, ↓xr553, kr553, hs0, hw0, hs1, hw1, hs2, hw2, hs3, hw3, hs4, hw4, hs5, hw5, hs6, hw6, hs7, hw7, hs8, hw8, hs9, hw9, hs10, hw10, hs11, hw11, hs12, hw12, hs13, hw13, hs14, hw14, hs15, hw15, hs16, hw16, hs17, hw17, hs18, hw18, hs19, hw19, hs20, hw20, hs21, hw21, hs22, hw22, hs23, hw23, hs25, hw25, hs26, hw26, hs27, hw27, hs28, hw28, hs9b, hw9b, hs10b, hw10b, kd0, kd20, kd21, kd22, kd23, kd24, kd25, kd26, kd27, kd28, kd29, kd30, kd31, kd32, kd33, kd34, kd35, kd36, kd37, kd38, kd39, kd40, kd41, kd42, kd54, kd55, kd56, kd57, kd58, kd59, kd67, kd75, kd82, kd89, kd102, kd115, kd276, kd437, kd444, kd451, kd452, kd453, kd534, kd535, kd536, kd553, kd557, kd558, kd559, kd560, kd561, ↓xgI_u, ↓xpI_u, ↓xaI_u, ↓xsI_u, ↓xrk_u, ↓xrk0_u, ↓xob_v, ↓xmb_v, ↓xth_v, ↓xth_x, ↓jn_u, ↓xlen_u, ↓xaL_u, ↓xsL_u, ↓xbl_0, ↓xbl_1, eq_self, inb_n, inb_d, Sh_PI, Sh_PL, dk_PI, dk_PL, dr_PI, dr_PL, ↓reduceIte, Int32.reduceLE, Int32.reduceLT, Int32.reduceToNatClampNeg, Nat.reduceLT, Nat.reduceLeDiff, Nat.reduceEqDiff, Nat.reduceAdd, Nat.reduceMul, hs, g1, s1_, g2, s2_, g3, s3_, h6, if_true, e10, if_false]
  rw [if_neg c3] at g3 k3
  obtain ⟨M4, g4, f4, k4⟩ := tS_takes (cs := kwTold) (a1 := 20) (a2 := 15) (a3 := 12) (a4 := 4) (a5 := 0) (a6 := 0) k3 (by decide +kernel) (by decide +kernel) (by decide +kernel)
  rw [hbl] at g4 k4
  have s4_ := k4.1.1
  by_cases c4 : wdS (xbN A) L q = kwTold
  · rw [if_pos c4] at g4 k4
    have hU : unV (xbN A) L q = 3 := by unfold unV; rw [c4]; decide +kernel
    rw [hU, if_neg (show ¬ (3 : Int32) = -1 by decide), c4]
    refine ⟨M4, ?_, (((f1).t0 f2).t0 f3).t0 f4, k4⟩
    simp -implicitDefEqProofs only [m_X10_knownHere, ↓gp0_2, ↓gp0_3, ↓gp0_4, ↓gp0_5, ↓gp0_6, ↓gp0_7, ↓gp0_8, ↓gp0_9, ↓gp0_10, ↓gp0_18, ↓gp0_19, ↓gp0_20, ↓gp0_22, ↓gp23_43, ↓gp23_32, ↓gp23_33, ↓gp23_34, ↓gp23_35, ↓gp23_36, ↓gp29_43, ↓gp29_32, ↓gp29_33, ↓gp29_34, ↓gp29_35, ↓gp29_36, ↓gp54_53, ↓gp54_54, ↓gp54_55, ↓gp54_56, ↓gp54_57, ↓gp54_58, ↓gp54_59, ↓gp54_60, ↓gp54_61, ↓gp54_62, ↓gp54_65, ↓gp54_66, ↓gp54_67, ↓gp54_68, ↓gp54_69, ↓gp54_70, ↓gp54_71, ↓gp54_73, ↓gp54_74, ↓gp54_75, ↓gp54_76, ↓gp54_84, ↓gp54_85, ↓gp54_87, ↓gp54_88, ↓xr59, kr59, ↓xr67, kr67, ↓xr75, kr75, ↓xr82, kr82, ↓xr89, kr89, ↓xr102, kr102, ↓xr115, kr115, ↓xr276, kr276, ↓xr437, kr437, ↓xr444, kr444, ↓xr453, kr453, ↓xr536, kr536, ↓xr553, kr553, hs0, hw0, hs1, hw1, hs2, hw2, hs3, hw3, hs4, hw4, hs5, hw5, hs6, hw6, hs7, hw7, hs8, hw8, hs9, hw9, hs10, hw10, hs11, hw11, hs12, hw12, hs13, hw13, hs14, hw14, hs15, hw15, hs16, hw16, hs17, hw17, hs18, hw18, hs19, hw19, hs20, hw20, hs21, hw21, hs22, hw22, hs23, hw23, hs25, hw25, hs26, hw26, hs27, hw27, hs28, hw28, hs9b, hw9b, hs10b, hw10b, kd0, kd20, kd21, kd22, kd23, kd24, kd25, kd26, kd27, kd28, kd29, kd30, kd31, kd32, kd33, kd34, kd35, kd36, kd37, kd38, kd39, kd40, kd41, kd42, kd54, kd55, kd56, kd57, kd58, kd59, kd67, kd75, kd82, kd89, kd102, kd115, kd276, kd437, kd444, kd451, kd452, kd453, kd534, kd535, kd536, kd553, kd557, kd558, kd559, kd560, kd561, ↓xgI_u, ↓xpI_u, ↓xaI_u, ↓xsI_u, ↓xrk_u, ↓xrk0_u, ↓xob_v, ↓xmb_v, ↓xth_v, ↓xth_x, ↓jn_u, ↓xlen_u, ↓xaL_u, ↓xsL_u, ↓xbl_0, ↓xbl_1, eq_self, inb_n, inb_d, Sh_PI, Sh_PL, dk_PI, dk_PL, dr_PI, dr_PL, ↓reduceIte, Int32.reduceLE, Int32.reduceLT, Int32.reduceToNatClampNeg, Nat.reduceLT, Nat.reduceLeDiff, Nat.reduceEqDiff, Nat.reduceAdd, Nat.reduceMul, hs, g1, s1_, g2, s2_, g3, s3_, g4, s4_, h6, if_true, e10, if_false]
  rw [if_neg c4] at g4 k4
  obtain ⟨M5, g5, f5, k5⟩ := tS_seven k4
  rw [hbl] at g5 k5
  have s5_ := k5.1.1
  by_cases c5 : wdS (xbN A) L q = kwDimples
  · rw [if_pos c5] at g5 k5
    have hU : unV (xbN A) L q = 4 := by unfold unV; rw [c5]; decide +kernel
    rw [hU, if_neg (show ¬ (4 : Int32) = -1 by decide), c5]
    refine ⟨M5, ?_, ((((f1).t0 f2).t0 f3).t0 f4).t0 f5, k5⟩
    simp -implicitDefEqProofs only [m_X10_knownHere, ↓gp0_2, ↓gp0_3, ↓gp0_4, ↓gp0_5, ↓gp0_6, ↓gp0_7, ↓gp0_8, ↓gp0_9, ↓gp0_10, ↓gp0_18, ↓gp0_19, ↓gp0_20, ↓gp0_22, ↓gp23_43, ↓gp23_32, ↓gp23_33, ↓gp23_34, ↓gp23_35, ↓gp23_36, ↓gp29_43, ↓gp29_32, ↓gp29_33, ↓gp29_34, ↓gp29_35, ↓gp29_36, ↓gp54_53, ↓gp54_54, ↓gp54_55, ↓gp54_56, ↓gp54_57, ↓gp54_58, ↓gp54_59, ↓gp54_60, ↓gp54_61, ↓gp54_62, ↓gp54_65, ↓gp54_66, ↓gp54_67, ↓gp54_68, ↓gp54_69, ↓gp54_70, ↓gp54_71, ↓gp54_73, ↓gp54_74, ↓gp54_75, ↓gp54_76, ↓gp54_84, ↓gp54_85, ↓gp54_87, ↓gp54_88, ↓xr59, kr59, ↓xr67, kr67, ↓xr75, kr75, ↓xr82, kr82, ↓xr89, kr89, ↓xr102, kr102, ↓xr115, kr115, ↓xr276, kr276, ↓xr437, kr437, ↓xr444, kr444, ↓xr453, kr453, ↓xr536, kr536, ↓xr553, kr553, hs0, hw0, hs1, hw1, hs2, hw2, hs3, hw3, hs4, hw4, hs5, hw5, hs6, hw6, hs7, hw7, hs8, hw8, hs9, hw9, hs10, hw10, hs11, hw11, hs12, hw12, hs13, hw13, hs14, hw14, hs15, hw15, hs16, hw16, hs17, hw17, hs18, hw18, hs19, hw19, hs20, hw20, hs21, hw21, hs22, hw22, hs23, hw23, hs25, hw25, hs26, hw26, hs27, hw27, hs28, hw28, hs9b, hw9b, hs10b, hw10b, kd0, kd20, kd21, kd22, kd23, kd24, kd25, kd26, kd27, kd28, kd29, kd30, kd31, kd32, kd33, kd34, kd35, kd36, kd37, kd38, kd39, kd40, kd41, kd42, kd54, kd55, kd56, kd57, kd58, kd59, kd67, kd75, kd82, kd89, kd102, kd115, kd276, kd437, kd444, kd451, kd452, kd453, kd534, kd535, kd536, kd553, kd557, kd558, kd559, kd560, kd561, ↓xgI_u, ↓xpI_u, ↓xaI_u, ↓xsI_u, ↓xrk_u, ↓xrk0_u, ↓xob_v, ↓xmb_v, ↓xth_v, ↓xth_x, ↓jn_u, ↓xlen_u, ↓xaL_u, ↓xsL_u, ↓xbl_0, ↓xbl_1, eq_self, inb_n, inb_d, Sh_PI, Sh_PL, dk_PI, dk_PL, dr_PI, dr_PL, ↓reduceIte, Int32.reduceLE, Int32.reduceLT, Int32.reduceToNatClampNeg, Nat.reduceLT, Nat.reduceLeDiff, Nat.reduceEqDiff, Nat.reduceAdd, Nat.reduceMul, hs, g1, s1_, g2, s2_, g3, s3_, g4, s4_, g5, s5_, h6, if_true, e10, if_false]
  rw [if_neg c5] at g5 k5
  obtain ⟨M6, g6, f6, k6⟩ := tS_takes (cs := kwGrief) (a1 := 7) (a2 := 18) (a3 := 9) (a4 := 5) (a5 := 6) (a6 := 0) k5 (by decide +kernel) (by decide +kernel) (by decide +kernel)
  rw [hbl] at g6 k6
  have s6_ := k6.1.1
  by_cases c6 : wdS (xbN A) L q = kwGrief
  · rw [if_pos c6] at g6 k6
    have hU : unV (xbN A) L q = 5 := by unfold unV; rw [c6]; decide +kernel
    rw [hU, if_neg (show ¬ (5 : Int32) = -1 by decide), c6]
    refine ⟨M6, ?_, (((((f1).t0 f2).t0 f3).t0 f4).t0 f5).t0 f6, k6⟩
    simp -implicitDefEqProofs only [m_X10_knownHere, ↓gp0_2, ↓gp0_3, ↓gp0_4, ↓gp0_5, ↓gp0_6, ↓gp0_7, ↓gp0_8, ↓gp0_9, ↓gp0_10, ↓gp0_18, ↓gp0_19, ↓gp0_20, ↓gp0_22, ↓gp23_43, ↓gp23_32, ↓gp23_33, ↓gp23_34, ↓gp23_35, ↓gp23_36, ↓gp29_43, ↓gp29_32, ↓gp29_33, ↓gp29_34, ↓gp29_35, ↓gp29_36, ↓gp54_53, ↓gp54_54, ↓gp54_55, ↓gp54_56, ↓gp54_57, ↓gp54_58, ↓gp54_59, ↓gp54_60, ↓gp54_61, ↓gp54_62, ↓gp54_65, ↓gp54_66, ↓gp54_67, ↓gp54_68, ↓gp54_69, ↓gp54_70, ↓gp54_71, ↓gp54_73, ↓gp54_74, ↓gp54_75, ↓gp54_76, ↓gp54_84, ↓gp54_85, ↓gp54_87, ↓gp54_88, ↓xr59, kr59, ↓xr67, kr67, ↓xr75, kr75, ↓xr82, kr82, ↓xr89, kr89, ↓xr102, kr102, ↓xr115, kr115, ↓xr276, kr276, ↓xr437, kr437, ↓xr444, kr444, ↓xr453, kr453, ↓xr536, kr536, ↓xr553, kr553, hs0, hw0, hs1, hw1, hs2, hw2, hs3, hw3, hs4, hw4, hs5, hw5, hs6, hw6, hs7, hw7, hs8, hw8, hs9, hw9, hs10, hw10, hs11, hw11, hs12, hw12, hs13, hw13, hs14, hw14, hs15, hw15, hs16, hw16, hs17, hw17, hs18, hw18, hs19, hw19, hs20, hw20, hs21, hw21, hs22, hw22, hs23, hw23, hs25, hw25, hs26, hw26, hs27, hw27, hs28, hw28, hs9b, hw9b, hs10b, hw10b, kd0, kd20, kd21, kd22, kd23, kd24, kd25, kd26, kd27, kd28, kd29, kd30, kd31, kd32, kd33, kd34, kd35, kd36, kd37, kd38, kd39, kd40, kd41, kd42, kd54, kd55, kd56, kd57, kd58, kd59, kd67, kd75, kd82, kd89, kd102, kd115, kd276, kd437, kd444, kd451, kd452, kd453, kd534, kd535, kd536, kd553, kd557, kd558, kd559, kd560, kd561, ↓xgI_u, ↓xpI_u, ↓xaI_u, ↓xsI_u, ↓xrk_u, ↓xrk0_u, ↓xob_v, ↓xmb_v, ↓xth_v, ↓xth_x, ↓jn_u, ↓xlen_u, ↓xaL_u, ↓xsL_u, ↓xbl_0, ↓xbl_1, eq_self, inb_n, inb_d, Sh_PI, Sh_PL, dk_PI, dk_PL, dr_PI, dr_PL, ↓reduceIte, Int32.reduceLE, Int32.reduceLT, Int32.reduceToNatClampNeg, Nat.reduceLT, Nat.reduceLeDiff, Nat.reduceEqDiff, Nat.reduceAdd, Nat.reduceMul, hs, g1, s1_, g2, s2_, g3, s3_, g4, s4_, g5, s5_, g6, s6_, h6, if_true, e10, if_false]
  rw [if_neg c6] at g6 k6
  obtain ⟨M7, g7, f7, k7⟩ := tS_takes (cs := kwNear) (a1 := 14) (a2 := 5) (a3 := 1) (a4 := 18) (a5 := 0) (a6 := 0) k6 (by decide +kernel) (by decide +kernel) (by decide +kernel)
  rw [hbl] at g7 k7
  have s7_ := k7.1.1
  by_cases c7 : wdS (xbN A) L q = kwNear
  · rw [if_pos c7] at g7 k7
    have hU : unV (xbN A) L q = 6 := by unfold unV; rw [c7]; decide +kernel
    rw [hU, if_neg (show ¬ (6 : Int32) = -1 by decide), c7]
    refine ⟨M7, ?_, ((((((f1).t0 f2).t0 f3).t0 f4).t0 f5).t0 f6).t0 f7, k7⟩
    simp -implicitDefEqProofs only [m_X10_knownHere, ↓gp0_2, ↓gp0_3, ↓gp0_4, ↓gp0_5, ↓gp0_6, ↓gp0_7, ↓gp0_8, ↓gp0_9, ↓gp0_10, ↓gp0_18, ↓gp0_19, ↓gp0_20, ↓gp0_22, ↓gp23_43, ↓gp23_32, ↓gp23_33, ↓gp23_34, ↓gp23_35, ↓gp23_36, ↓gp29_43, ↓gp29_32, ↓gp29_33, ↓gp29_34, ↓gp29_35, ↓gp29_36, ↓gp54_53, ↓gp54_54, ↓gp54_55, ↓gp54_56, ↓gp54_57, ↓gp54_58, ↓gp54_59, ↓gp54_60, ↓gp54_61, ↓gp54_62, ↓gp54_65, ↓gp54_66, ↓gp54_67, ↓gp54_68, ↓gp54_69, ↓gp54_70, ↓gp54_71, ↓gp54_73, ↓gp54_74, ↓gp54_75, ↓gp54_76, ↓gp54_84, ↓gp54_85, ↓gp54_87, ↓gp54_88, ↓xr59, kr59, ↓xr67, kr67, ↓xr75, kr75, ↓xr82, kr82, ↓xr89, kr89, ↓xr102, kr102, ↓xr115, kr115, ↓xr276, kr276, ↓xr437, kr437, ↓xr444, kr444, ↓xr453, kr453, ↓xr536, kr536, ↓xr553, kr553, hs0, hw0, hs1, hw1, hs2, hw2, hs3, hw3, hs4, hw4, hs5, hw5, hs6, hw6, hs7, hw7, hs8, hw8, hs9, hw9, hs10, hw10, hs11, hw11, hs12, hw12, hs13, hw13, hs14, hw14, hs15, hw15, hs16, hw16, hs17, hw17, hs18, hw18, hs19, hw19, hs20, hw20, hs21, hw21, hs22, hw22, hs23, hw23, hs25, hw25, hs26, hw26, hs27, hw27, hs28, hw28, hs9b, hw9b, hs10b, hw10b, kd0, kd20, kd21, kd22, kd23, kd24, kd25, kd26, kd27, kd28, kd29, kd30, kd31, kd32, kd33, kd34, kd35, kd36, kd37, kd38, kd39, kd40, kd41, kd42, kd54, kd55, kd56, kd57, kd58, kd59, kd67, kd75, kd82, kd89, kd102, kd115, kd276, kd437, kd444, kd451, kd452, kd453, kd534, kd535, kd536, kd553, kd557, kd558, kd559, kd560, kd561, ↓xgI_u, ↓xpI_u, ↓xaI_u, ↓xsI_u, ↓xrk_u, ↓xrk0_u, ↓xob_v, ↓xmb_v, ↓xth_v, ↓xth_x, ↓jn_u, ↓xlen_u, ↓xaL_u, ↓xsL_u, ↓xbl_0, ↓xbl_1, eq_self, inb_n, inb_d, Sh_PI, Sh_PL, dk_PI, dk_PL, dr_PI, dr_PL, ↓reduceIte, Int32.reduceLE, Int32.reduceLT, Int32.reduceToNatClampNeg, Nat.reduceLT, Nat.reduceLeDiff, Nat.reduceEqDiff, Nat.reduceAdd, Nat.reduceMul, hs, g1, s1_, g2, s2_, g3, s3_, g4, s4_, g5, s5_, g6, s6_, g7, s7_, h6, if_true, e10, if_false]
  rw [if_neg c7] at g7 k7
  obtain ⟨M8, g8, f8, k8⟩ := tS_takes (cs := kwThirst) (a1 := 20) (a2 := 8) (a3 := 9) (a4 := 18) (a5 := 19) (a6 := 20) k7 (by decide +kernel) (by decide +kernel) (by decide +kernel)
  rw [hbl] at g8 k8
  have s8_ := k8.1.1
  by_cases c8 : wdS (xbN A) L q = kwThirst
  · rw [if_pos c8] at g8 k8
    have hU : unV (xbN A) L q = 7 := by unfold unV; rw [c8]; decide +kernel
    rw [hU, if_neg (show ¬ (7 : Int32) = -1 by decide), c8]
    refine ⟨M8, ?_, (((((((f1).t0 f2).t0 f3).t0 f4).t0 f5).t0 f6).t0 f7).t0 f8, k8⟩
    simp -implicitDefEqProofs only [m_X10_knownHere, ↓gp0_2, ↓gp0_3, ↓gp0_4, ↓gp0_5, ↓gp0_6, ↓gp0_7, ↓gp0_8, ↓gp0_9, ↓gp0_10, ↓gp0_18, ↓gp0_19, ↓gp0_20, ↓gp0_22, ↓gp23_43, ↓gp23_32, ↓gp23_33, ↓gp23_34, ↓gp23_35, ↓gp23_36, ↓gp29_43, ↓gp29_32, ↓gp29_33, ↓gp29_34, ↓gp29_35, ↓gp29_36, ↓gp54_53, ↓gp54_54, ↓gp54_55, ↓gp54_56, ↓gp54_57, ↓gp54_58, ↓gp54_59, ↓gp54_60, ↓gp54_61, ↓gp54_62, ↓gp54_65, ↓gp54_66, ↓gp54_67, ↓gp54_68, ↓gp54_69, ↓gp54_70, ↓gp54_71, ↓gp54_73, ↓gp54_74, ↓gp54_75, ↓gp54_76, ↓gp54_84, ↓gp54_85, ↓gp54_87, ↓gp54_88, ↓xr59, kr59, ↓xr67, kr67, ↓xr75, kr75, ↓xr82, kr82, ↓xr89, kr89, ↓xr102, kr102, ↓xr115, kr115, ↓xr276, kr276, ↓xr437, kr437, ↓xr444, kr444, ↓xr453, kr453, ↓xr536, kr536, ↓xr553, kr553, hs0, hw0, hs1, hw1, hs2, hw2, hs3, hw3, hs4, hw4, hs5, hw5, hs6, hw6, hs7, hw7, hs8, hw8, hs9, hw9, hs10, hw10, hs11, hw11, hs12, hw12, hs13, hw13, hs14, hw14, hs15, hw15, hs16, hw16, hs17, hw17, hs18, hw18, hs19, hw19, hs20, hw20, hs21, hw21, hs22, hw22, hs23, hw23, hs25, hw25, hs26, hw26, hs27, hw27, hs28, hw28, hs9b, hw9b, hs10b, hw10b, kd0, kd20, kd21, kd22, kd23, kd24, kd25, kd26, kd27, kd28, kd29, kd30, kd31, kd32, kd33, kd34, kd35, kd36, kd37, kd38, kd39, kd40, kd41, kd42, kd54, kd55, kd56, kd57, kd58, kd59, kd67, kd75, kd82, kd89, kd102, kd115, kd276, kd437, kd444, kd451, kd452, kd453, kd534, kd535, kd536, kd553, kd557, kd558, kd559, kd560, kd561, ↓xgI_u, ↓xpI_u, ↓xaI_u, ↓xsI_u, ↓xrk_u, ↓xrk0_u, ↓xob_v, ↓xmb_v, ↓xth_v, ↓xth_x, ↓jn_u, ↓xlen_u, ↓xaL_u, ↓xsL_u, ↓xbl_0, ↓xbl_1, eq_self, inb_n, inb_d, Sh_PI, Sh_PL, dk_PI, dk_PL, dr_PI, dr_PL, ↓reduceIte, Int32.reduceLE, Int32.reduceLT, Int32.reduceToNatClampNeg, Nat.reduceLT, Nat.reduceLeDiff, Nat.reduceEqDiff, Nat.reduceAdd, Nat.reduceMul, hs, g1, s1_, g2, s2_, g3, s3_, g4, s4_, g5, s5_, g6, s6_, g7, s7_, g8, s8_, h6, if_true, e10, if_false]
  rw [if_neg c8] at g8 k8
  obtain ⟨M9, g9, f9, k9⟩ := tS_takes (cs := kwDay) (a1 := 4) (a2 := 1) (a3 := 25) (a4 := 0) (a5 := 0) (a6 := 0) k8 (by decide +kernel) (by decide +kernel) (by decide +kernel)
  rw [hbl] at g9 k9
  have s9_ := k9.1.1
  by_cases c9 : wdS (xbN A) L q = kwDay
  · rw [if_pos c9] at g9 k9
    have hU : unV (xbN A) L q = 8 := by unfold unV; rw [c9]; decide +kernel
    rw [hU, if_neg (show ¬ (8 : Int32) = -1 by decide), c9]
    refine ⟨M9, ?_, ((((((((f1).t0 f2).t0 f3).t0 f4).t0 f5).t0 f6).t0 f7).t0 f8).t0 f9, k9⟩
    simp -implicitDefEqProofs only [m_X10_knownHere, ↓gp0_2, ↓gp0_3, ↓gp0_4, ↓gp0_5, ↓gp0_6, ↓gp0_7, ↓gp0_8, ↓gp0_9, ↓gp0_10, ↓gp0_18, ↓gp0_19, ↓gp0_20, ↓gp0_22, ↓gp23_43, ↓gp23_32, ↓gp23_33, ↓gp23_34, ↓gp23_35, ↓gp23_36, ↓gp29_43, ↓gp29_32, ↓gp29_33, ↓gp29_34, ↓gp29_35, ↓gp29_36, ↓gp54_53, ↓gp54_54, ↓gp54_55, ↓gp54_56, ↓gp54_57, ↓gp54_58, ↓gp54_59, ↓gp54_60, ↓gp54_61, ↓gp54_62, ↓gp54_65, ↓gp54_66, ↓gp54_67, ↓gp54_68, ↓gp54_69, ↓gp54_70, ↓gp54_71, ↓gp54_73, ↓gp54_74, ↓gp54_75, ↓gp54_76, ↓gp54_84, ↓gp54_85, ↓gp54_87, ↓gp54_88, ↓xr59, kr59, ↓xr67, kr67, ↓xr75, kr75, ↓xr82, kr82, ↓xr89, kr89, ↓xr102, kr102, ↓xr115, kr115, ↓xr276, kr276, ↓xr437, kr437, ↓xr444, kr444, ↓xr453, kr453, ↓xr536, kr536, ↓xr553, kr553, hs0, hw0, hs1, hw1, hs2, hw2, hs3, hw3, hs4, hw4, hs5, hw5, hs6, hw6, hs7, hw7, hs8, hw8, hs9, hw9, hs10, hw10, hs11, hw11, hs12, hw12, hs13, hw13, hs14, hw14, hs15, hw15, hs16, hw16, hs17, hw17, hs18, hw18, hs19, hw19, hs20, hw20, hs21, hw21, hs22, hw22, hs23, hw23, hs25, hw25, hs26, hw26, hs27, hw27, hs28, hw28, hs9b, hw9b, hs10b, hw10b, kd0, kd20, kd21, kd22, kd23, kd24, kd25, kd26, kd27, kd28, kd29, kd30, kd31, kd32, kd33, kd34, kd35, kd36, kd37, kd38, kd39, kd40, kd41, kd42, kd54, kd55, kd56, kd57, kd58, kd59, kd67, kd75, kd82, kd89, kd102, kd115, kd276, kd437, kd444, kd451, kd452, kd453, kd534, kd535, kd536, kd553, kd557, kd558, kd559, kd560, kd561, ↓xgI_u, ↓xpI_u, ↓xaI_u, ↓xsI_u, ↓xrk_u, ↓xrk0_u, ↓xob_v, ↓xmb_v, ↓xth_v, ↓xth_x, ↓jn_u, ↓xlen_u, ↓xaL_u, ↓xsL_u, ↓xbl_0, ↓xbl_1, eq_self, inb_n, inb_d, Sh_PI, Sh_PL, dk_PI, dk_PL, dr_PI, dr_PL, ↓reduceIte, Int32.reduceLE, Int32.reduceLT, Int32.reduceToNatClampNeg, Nat.reduceLT, Nat.reduceLeDiff, Nat.reduceEqDiff, Nat.reduceAdd, Nat.reduceMul, hs, g1, s1_, g2, s2_, g3, s3_, g4, s4_, g5, s5_, g6, s6_, g7, s7_, g8, s8_, g9, s9_, h6, if_true, e10, if_false]
  rw [if_neg c9] at g9 k9
  obtain ⟨M10, g10, f10, k10⟩ := tS_takes (cs := kwPerson) (a1 := 16) (a2 := 5) (a3 := 18) (a4 := 19) (a5 := 15) (a6 := 14) k9 (by decide +kernel) (by decide +kernel) (by decide +kernel)
  rw [hbl] at g10 k10
  have s10_ := k10.1.1
  by_cases c10 : wdS (xbN A) L q = kwPerson
  · rw [if_pos c10] at g10 k10
    have hU : unV (xbN A) L q = 9 := by unfold unV; rw [c10]; decide +kernel
    rw [hU, if_neg (show ¬ (9 : Int32) = -1 by decide), c10]
    refine ⟨M10, ?_, (((((((((f1).t0 f2).t0 f3).t0 f4).t0 f5).t0 f6).t0 f7).t0 f8).t0 f9).t0 f10, k10⟩
    simp -implicitDefEqProofs only [m_X10_knownHere, ↓gp0_2, ↓gp0_3, ↓gp0_4, ↓gp0_5, ↓gp0_6, ↓gp0_7, ↓gp0_8, ↓gp0_9, ↓gp0_10, ↓gp0_18, ↓gp0_19, ↓gp0_20, ↓gp0_22, ↓gp23_43, ↓gp23_32, ↓gp23_33, ↓gp23_34, ↓gp23_35, ↓gp23_36, ↓gp29_43, ↓gp29_32, ↓gp29_33, ↓gp29_34, ↓gp29_35, ↓gp29_36, ↓gp54_53, ↓gp54_54, ↓gp54_55, ↓gp54_56, ↓gp54_57, ↓gp54_58, ↓gp54_59, ↓gp54_60, ↓gp54_61, ↓gp54_62, ↓gp54_65, ↓gp54_66, ↓gp54_67, ↓gp54_68, ↓gp54_69, ↓gp54_70, ↓gp54_71, ↓gp54_73, ↓gp54_74, ↓gp54_75, ↓gp54_76, ↓gp54_84, ↓gp54_85, ↓gp54_87, ↓gp54_88, ↓xr59, kr59, ↓xr67, kr67, ↓xr75, kr75, ↓xr82, kr82, ↓xr89, kr89, ↓xr102, kr102, ↓xr115, kr115, ↓xr276, kr276, ↓xr437, kr437, ↓xr444, kr444, ↓xr453, kr453, ↓xr536, kr536, ↓xr553, kr553, hs0, hw0, hs1, hw1, hs2, hw2, hs3, hw3, hs4, hw4, hs5, hw5, hs6, hw6, hs7, hw7, hs8, hw8, hs9, hw9, hs10, hw10, hs11, hw11, hs12, hw12, hs13, hw13, hs14, hw14, hs15, hw15, hs16, hw16, hs17, hw17, hs18, hw18, hs19, hw19, hs20, hw20, hs21, hw21, hs22, hw22, hs23, hw23, hs25, hw25, hs26, hw26, hs27, hw27, hs28, hw28, hs9b, hw9b, hs10b, hw10b, kd0, kd20, kd21, kd22, kd23, kd24, kd25, kd26, kd27, kd28, kd29, kd30, kd31, kd32, kd33, kd34, kd35, kd36, kd37, kd38, kd39, kd40, kd41, kd42, kd54, kd55, kd56, kd57, kd58, kd59, kd67, kd75, kd82, kd89, kd102, kd115, kd276, kd437, kd444, kd451, kd452, kd453, kd534, kd535, kd536, kd553, kd557, kd558, kd559, kd560, kd561, ↓xgI_u, ↓xpI_u, ↓xaI_u, ↓xsI_u, ↓xrk_u, ↓xrk0_u, ↓xob_v, ↓xmb_v, ↓xth_v, ↓xth_x, ↓jn_u, ↓xlen_u, ↓xaL_u, ↓xsL_u, ↓xbl_0, ↓xbl_1, eq_self, inb_n, inb_d, Sh_PI, Sh_PL, dk_PI, dk_PL, dr_PI, dr_PL, ↓reduceIte, Int32.reduceLE, Int32.reduceLT, Int32.reduceToNatClampNeg, Nat.reduceLT, Nat.reduceLeDiff, Nat.reduceEqDiff, Nat.reduceAdd, Nat.reduceMul, hs, g1, s1_, g2, s2_, g3, s3_, g4, s4_, g5, s5_, g6, s6_, g7, s7_, g8, s8_, g9, s9_, g10, s10_, h6, if_true, e10, if_false]
  rw [if_neg c10] at g10 k10
  have hU : unV (xbN A) L q = -1 := by
    unfold unV
    simp only [swv, swUnit, tk kwPerson (by decide), tk kwStrong (by decide), tk kwThirst (by decide), tk kwDay (by decide), tk kwMost (by decide), tk kwNear (by decide), tk kwTold (by decide), tk kwWorn (by decide), tk kwApart (by decide), tk kwGrief (by decide), tk kwLeast (by decide), tk kwDimples (by decide), n1, n2, c1, c2, c3, c4, c5, c6, c7, c8, c9, c10, if_false]
  rw [hU, if_pos rfl]
  refine ⟨M10, ?_, (((((((((f1).t0 f2).t0 f3).t0 f4).t0 f5).t0 f6).t0 f7).t0 f8).t0 f9).t0 f10, k10⟩
  simp -implicitDefEqProofs only [m_X10_knownHere, ↓gp0_2, ↓gp0_3, ↓gp0_4, ↓gp0_5, ↓gp0_6, ↓gp0_7, ↓gp0_8, ↓gp0_9, ↓gp0_10, ↓gp0_18, ↓gp0_19, ↓gp0_20, ↓gp0_22, ↓gp23_43, ↓gp23_32, ↓gp23_33, ↓gp23_34, ↓gp23_35, ↓gp23_36, ↓gp29_43, ↓gp29_32, ↓gp29_33, ↓gp29_34, ↓gp29_35, ↓gp29_36, ↓gp54_53, ↓gp54_54, ↓gp54_55, ↓gp54_56, ↓gp54_57, ↓gp54_58, ↓gp54_59, ↓gp54_60, ↓gp54_61, ↓gp54_62, ↓gp54_65, ↓gp54_66, ↓gp54_67, ↓gp54_68, ↓gp54_69, ↓gp54_70, ↓gp54_71, ↓gp54_73, ↓gp54_74, ↓gp54_75, ↓gp54_76, ↓gp54_84, ↓gp54_85, ↓gp54_87, ↓gp54_88, ↓xr59, kr59, ↓xr67, kr67, ↓xr75, kr75, ↓xr82, kr82, ↓xr89, kr89, ↓xr102, kr102, ↓xr115, kr115, ↓xr276, kr276, ↓xr437, kr437, ↓xr444, kr444, ↓xr453, kr453, ↓xr536, kr536, ↓xr553, kr553, hs0, hw0, hs1, hw1, hs2, hw2, hs3, hw3, hs4, hw4, hs5, hw5, hs6, hw6, hs7, hw7, hs8, hw8, hs9, hw9, hs10, hw10, hs11, hw11, hs12, hw12, hs13, hw13, hs14, hw14, hs15, hw15, hs16, hw16, hs17, hw17, hs18, hw18, hs19, hw19, hs20, hw20, hs21, hw21, hs22, hw22, hs23, hw23, hs25, hw25, hs26, hw26, hs27, hw27, hs28, hw28, hs9b, hw9b, hs10b, hw10b, kd0, kd20, kd21, kd22, kd23, kd24, kd25, kd26, kd27, kd28, kd29, kd30, kd31, kd32, kd33, kd34, kd35, kd36, kd37, kd38, kd39, kd40, kd41, kd42, kd54, kd55, kd56, kd57, kd58, kd59, kd67, kd75, kd82, kd89, kd102, kd115, kd276, kd437, kd444, kd451, kd452, kd453, kd534, kd535, kd536, kd553, kd557, kd558, kd559, kd560, kd561, ↓xgI_u, ↓xpI_u, ↓xaI_u, ↓xsI_u, ↓xrk_u, ↓xrk0_u, ↓xob_v, ↓xmb_v, ↓xth_v, ↓xth_x, ↓jn_u, ↓xlen_u, ↓xaL_u, ↓xsL_u, ↓xbl_0, ↓xbl_1, eq_self, inb_n, inb_d, Sh_PI, Sh_PL, dk_PI, dk_PL, dr_PI, dr_PL, ↓reduceIte, Int32.reduceLE, Int32.reduceLT, Int32.reduceToNatClampNeg, Nat.reduceLT, Nat.reduceLeDiff, Nat.reduceEqDiff, Nat.reduceAdd, Nat.reduceMul, hs, g1, s1_, g2, s2_, g3, s3_, g4, s4_, g5, s5_, g6, s6_, g7, s7_, g8, s8_, g9, s9_, g10, s10_, h6, if_true]
end READ
