/-! the component's numbers -/
section READ
variable {b : Nat} {M : dwSt} {A : dvA} {ρ : Type}
theorem fs5e : (dwFs 5).length = 8 := by decide
theorem xnew5 {M : dwSt} {K : Nat → dwSt → Option ρ} (hR : room M 1 8) : xnew M 5 K = K (dwN M) (dwMk M (0, 5) 8) := by
  unfold xnew
  unfold room at hR
  rw [fs5e, if_pos ⟨by omega, by omega⟩]
theorem c_mkW {M1 : dwSt} {k p : Int32} : ∃ M2, m_X13_init (dwMk M1 (0, 5) 8) (dwN M1) k p = some ((), M2) ∧ fr nz nz 1 8 M1 M2 ∧ dwI M2 (dwN M1) 102 = k ∧ dwI M2 (dwN M1) 103 = p ∧ dwN M1 < dwN M2 ∧ dwK M2 (dwN M1) = (0, 5) := by
  have hk : dwK (dwMk M1 (0, 5) 8) (dwN M1) = (0, 5) := by rw [dk_Mk, if_pos rfl]
  obtain ⟨M2, e, f, h1, h2⟩ := c_wrongO (k := k) (p := p) hk
  have f0 : fr (fun a _ => a = dwN M1) (fun a _ => a = dwN M1) 1 8 M1 (dwMk M1 (0, 5) 8) := (fr.refl M1).mk (0, 5) 8
  have hn := f.n
  have hm : dwN (dwMk M1 (0, 5) 8) = dwN M1 + 1 := rfl
  exact ⟨M2, e, (f0.t0 f).old (fun a k ha q => by have : a = dwN M1 := q; omega) (fun a k ha q => by have : a = dwN M1 := q; omega), h1, h2, by omega, (f.k (by omega)).trans hk⟩
def sNo (o : Nat) : Nat → Nat → Prop := fun a k => a = o ∧ (k = 92 ∨ k = 93)
def nbC (M1 : dwSt) (o q0 : Nat) (R : (Nat × Nat) ⊕ (Nat × Nat)) (z : dwR9 Int32) : Prop := match R with
  | .inl r => ∃ M2, z = some (.inl (Int32.ofNat r.1), M2) ∧ fr (sNo o) nz 0 0 M1 M2 ∧ dwI M2 o 92 = Int32.ofNat r.2 ∧ dwI M2 o 93 = Int32.ofNat q0
  | .inr r => ∃ M2 q, z = some (.inr (0, q), M2) ∧ fr (sNo o) nz 1 8 M1 M2 ∧ dwN M1 ≤ q ∧ q < dwN M2 ∧ dwK M2 q = (0, 5) ∧ dwI M2 q 102 = Int32.ofNat r.1 ∧ dwI M2 q 103 = Int32.ofNat r.2
theorem c_wr {M1 : dwSt} {o ci L q : Nat} (hr : rdr b M1 o ci L) (h : dwI M1 o 92 = Int32.ofNat q) (hR : room M1 1 8) : ∃ M2, m_X11_wrong M1 o = some (dwN M1, M2) ∧ fr nz nz 1 8 M1 M2 ∧ dwI M2 (dwN M1) 102 = 1 ∧ dwI M2 (dwN M1) 103 = Int32.ofNat q ∧ dwN M1 < dwN M2 ∧ dwK M2 (dwN M1) = (0, 5) := by
  have ho := hr.1
  obtain ⟨M2, e, rest⟩ := c_mkW (M1 := M1) (k := 1) (p := Int32.ofNat q)
  refine ⟨M2, ?_, rest⟩
  have hk : dwHas (dwK (dwMk M1 (0, 5) 8) o) 92 = true := by
    rw [dk_Mk, if_neg (by omega)]; exact (rdr_h hr 92 (by omega) (by omega)).1
  unfold m_X11_wrong
  rw [xnew5 hR, xgI_u hk, di_Mk, if_neg (by omega), h, e]
  rfl
theorem c_num {lo hi : Int32} {M1 : dwSt} {o ci L p : Nat} (hL : L ≤ (aTx A).1) (hp : p ≤ L) (ht : tpC b M1 A) (hr : rdr b M1 o ci L) (h : dwI M1 o 92 = Int32.ofNat p) (hR : room M1 1 8) : nbC M1 o (blS (xbN A) L p) (nbS (xbN A) L lo hi p) (m_X11_number M1 o lo hi) := by
  have ho := ht.2.1
  have hob := hr.2.1
  have hol := hr.1
  have hq := (blS_le (X := xbN A) (L := L) _ p rfl).2 hp
  obtain ⟨M2, e, f, k92⟩ := c_sign hL hp ht hr h
  have t2 := ht.fr f (fun k q => by have := q.1; omega) nz_p
  have r2 := hr.fr f (fun q => by have := q.2; omega) (fun q => q)
  have g := rdr_h r2
  have hR2 : room M2 1 8 := (hR.le (n' := 0 + 1) (u' := 0 + 8) (by omega) (by omega)).fr (n := 0) (u := 0) (by simpa using f)
  unfold nbS
  generalize hqq : blS (xbN A) L p = q at *
  have f' : fr (sNo o) nz 0 0 M1 M2 := f.mono (fun a k z => ⟨z.1, Or.inl z.2⟩) (fun _ _ z => z) (Nat.le_refl _) (Nat.le_refl _)
  have wr : nbC M1 o q (.inr (1, q)) (xrc M2 o [4, 8, 9, 10] (xmb (m_X11_wrong M2 o) (fun v3 M4 => xrk0 M4 v3 5 (some (.inr (0, v3), M4))))) := by
    obtain ⟨M3, e3, f3, a1, a2, a3, a4⟩ := c_wr r2 k92 hR2
    rw [xrc_r r2, e3]
    have := f.n
    refine ⟨M3, dwN M2, ?_, (f'.trans (f3.mono (fun _ _ z => False.elim z) (fun _ _ z => z) (Nat.le_refl _) (Nat.le_refl _))).mono (fun _ _ z => z) (fun _ _ z => z) (by omega) (by omega), this, a3, a4, a1, a2⟩
    exact xrk0_u a4
  unfold m_X11_number
  rw [xrc_r hr, e]
  show nbC M1 o q _ (if sgC (xbN A) L q < 48 then _ else if sgC (xbN A) L q ≤ 57 then _ else _)
  by_cases hlt : q < L
  · have hv := (t2.2.2 q (by omega)).1
    have es : sgC (xbN A) L q = (Int32.ofNat (xbN A q)).toInt8.toInt32 := if_pos hlt
    have l1 := b_lt' _ hv 48 (by omega)
    have l2 := b_gt' _ hv 57 (by omega)
    rw [es]
    by_cases c1 : (Int32.ofNat (xbN A q)).toInt8.toInt32 < 48
    · have := l1.mp c1
      rw [if_pos c1, if_neg (show ¬ (q < L ∧ dgN (xbN A q)) by omega)]
      exact wr
    · have n1 : ¬ (xbN A q < 48 ∨ 128 ≤ xbN A q) := fun z => c1 (l1.mpr z)
      by_cases c2 : (57 : Int32) < (Int32.ofNat (xbN A q)).toInt8.toInt32
      · have := l2.mp c2
        rw [if_neg c1, if_neg (Int32.not_le.mpr c2), if_neg (show ¬ (q < L ∧ dgN (xbN A q)) by omega)]
        exact wr
      · have n2 : ¬ (57 < xbN A q ∧ xbN A q < 128) := fun z => c2 (l2.mpr z)
        rw [if_neg c1, if_pos (Int32.not_lt.mp c2), if_pos (show q < L ∧ dgN (xbN A q) by omega)]
        rw [xgI_u (g 92 (by omega) (by omega)).1, k92, xpI_u (g 93 (by omega) (by omega)).2]
        simp only [jn_u]
        have f5 : fr (sNo o) nz 0 0 M2 (dwPI M2 o 93 (Int32.ofNat q)) := (fr.refl M2).pI _ (Or.inl ⟨rfl, Or.inr rfl⟩)
        have t5 := t2.fr f5 (fun k z => by have := z.1; omega) nz_p
        have r5 := r2.fr f5 (fun z => by have := z.2; omega) (fun z => z)
        refine c_digits (E := nbC M1 o q (if inV (Int32.ofNat (nuS (xbN A) L 0 q).1) lo hi = 1 then .inl (nuS (xbN A) L 0 q) else .inr (2, q))) hL (L - q) q 0 1000000 _ rfl (by omega) hq (by omega) t5 r5 (by rw [di_PI, if_neg (by omega)]; exact k92) fun M6 f6 k6 => ?_
        have g6 := rdr_h (r5.fr f6 (fun z => by have := z.2; omega) (fun z => z))
        have f7 : fr (sNo o) nz 0 0 M1 M6 := (f'.t0 f5).t0 (f6.mono (fun a k z => ⟨z.1, Or.inl z.2⟩) (fun _ _ z => z) (Nat.le_refl _) (Nat.le_refl _))
        have k93 : dwI M6 o 93 = Int32.ofNat q := (f6.i (show o < dwN M2 from r2.1) (fun z => by have := z.2; omega)).trans di_eq
        have hR6 : room M6 1 8 := (hR.le (n' := 0 + 1) (u' := 0 + 8) (by omega) (by omega)).fr f7
        generalize nuS (xbN A) L 0 q = r at *
        have wr2 : nbC M1 o q (.inr (2, q)) (xnew M6 5 (fun o9 M10 => xgI M10 93 o (fun v11 => xmb (m_X13_init M10 o9 2 v11) (fun _ M13 => xrk0 M13 o9 5 (some (.inr (0, o9), M13)))))) := by
          obtain ⟨M8, e8, f8, a1, a2, a3, a4⟩ := c_mkW (M1 := M6) (k := 2) (p := Int32.ofNat q)
          have h7 := f7.n
          have hk : dwHas (dwK (dwMk M6 (0, 5) 8) o) 93 = true := by
            rw [dk_Mk, if_neg (by omega)]; exact (g6 93 (by omega) (by omega)).1
          rw [xnew5 hR6, xgI_u hk, di_Mk, if_neg (by omega), k93, e8]
          refine ⟨M8, dwN M6, ?_, (f7.trans (f8.mono (fun _ _ z => False.elim z) (fun _ _ z => z) (Nat.le_refl _) (Nat.le_refl _))).mono (fun _ _ z => z) (fun _ _ z => z) (by omega) (by omega), h7, a3, a4, a1, a2⟩
          exact xrk0_u a4
        unfold inV
        by_cases b1 : Int32.ofNat r.1 < lo
        · rw [if_pos b1, if_pos b1, if_neg (by decide)]
          exact wr2
        · rw [if_neg b1, if_neg b1]
          by_cases b2 : hi < Int32.ofNat r.1
          · rw [if_pos b2, if_neg (Int32.not_le.mpr b2), if_neg (by decide)]
            exact wr2
          · rw [if_neg b2, if_pos (Int32.not_lt.mp b2), if_pos rfl]
            exact ⟨M6, rfl, f7, k6, k93⟩
  · rw [show sgC (xbN A) L q = 0 from if_neg hlt, if_neg (show ¬ (q < L ∧ dgN (xbN A q)) from fun z => hlt z.1), if_pos (show (0 : Int32) < 48 by decide)]
    exact wr
end READ
