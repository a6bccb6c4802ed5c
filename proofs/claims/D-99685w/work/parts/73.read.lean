/-! the component's numbers, and what is wrong -/
section READ
variable {b : Nat} {M : dwSt} {A : dvA} {ρ : Type}
theorem fs5 : ∃ n, (dwFs 5).length = n ∧ n ≤ 20 := ⟨_, rfl, by decide⟩
theorem xrc_r {o ci L : Nat} {X : Option ρ} (h : rdr b M o ci L) : xrc M o [4, 8, 9, 10] X = X := by
  unfold xrc
  rw [h.2.2.2.1]
  rcases h.2.2.1 with rfl | rfl | rfl | rfl <;> rfl
theorem hw5w {f : Nat} (h1 : 96 ≤ f) (h2 : f ≤ 103) : dwHasW (0, 5) f = true := (show ∀ f, f < 104 → 96 ≤ f → dwHasW (0, 5) f = true by decide +kernel) f (by omega) h1
def wroM (M1 : dwSt) (o : Nat) : dwSt := dwPR (dwPR (dwPR (dwPR (dwPR (dwPR (dwPR M1 o 96 (some o)) o 97 (dwOp (dwX M1 0))) o 98 (dwOp (dwX M1 1))) o 97 none) o 99 none) o 96 none) o 98 none
theorem wroM_fr {M1 : dwSt} {o : Nat} : fr (fun a _ => a = o) (fun a _ => a = o) 0 0 M1 (wroM M1 o) := by
  have f1 := (fr.refl (S := fun a _ => a = o) (Z := fun a _ => a = o) M1).pR (a := o) (k := 96) (some o) (Or.inl rfl)
  have f2 := f1.pR (a := o) (k := 97) (dwOp (dwX M1 0)) (Or.inl rfl)
  have f3 := f2.pR (a := o) (k := 98) (dwOp (dwX M1 1)) (Or.inl rfl)
  have f4 := f3.pR (a := o) (k := 97) none (Or.inl rfl)
  have f5 := f4.pR (a := o) (k := 99) none (Or.inl rfl)
  have f6 := f5.pR (a := o) (k := 96) none (Or.inl rfl)
  exact f6.pR (a := o) (k := 98) none (Or.inl rfl)
theorem c_wro3 {M1 : dwSt} {o : Nat} (h : dwK M1 o = (0, 5)) : m_J4_init_3 M1 o none none 0 0 = some ((), wroM M1 o) := by
  have w96 := hw5w (f := 96) (by omega) (by omega)
  have w97 := hw5w (f := 97) (by omega) (by omega)
  have w98 := hw5w (f := 98) (by omega) (by omega)
  have w99 := hw5w (f := 99) (by omega) (by omega)
  simp -implicitDefEqProofs only [m_J4_init_3, m_J3_init_3, xpR_u, xpN_u, xmb_v, dk_PR, dx_PR, h, w96, w97, w98, w99, if_true, wroM]
theorem c_wrongO {M1 : dwSt} {o : Nat} {k p : Int32} (h : dwK M1 o = (0, 5)) : ∃ M2, m_X13_init M1 o k p = some ((), M2) ∧ fr (fun a _ => a = o) (fun a _ => a = o) 0 0 M1 M2 ∧ dwI M2 o 102 = k ∧ dwI M2 o 103 = p := by
  have w102 := hw5w (f := 102) (by omega) (by omega)
  have w103 := hw5w (f := 103) (by omega) (by omega)
  have e := c_wro3 h
  have f := wroM_fr (M1 := M1) (o := o)
  have h2 : dwK (wroM M1 o) o = (0, 5) := h
  generalize wroM M1 o = M2 at *
  refine ⟨dwPI (dwPI M2 o 102 k) o 103 p, ?_, (f.pI _ (Or.inl rfl)).pI _ (Or.inl rfl), by rw [di_PI, if_neg (by omega), di_PI, if_pos ⟨rfl, rfl⟩], di_eq⟩
  simp -implicitDefEqProofs only [m_X13_init, e, xmb_v, xpI_u, dk_PI, h2, w102, w103]
end READ
