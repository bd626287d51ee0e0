/-! the two methods with handlers -/
/-- the class's wipe(row): out of range it answers 0, three cells more (the exception, its text) -/
def w0_wipe (post : Int32 → Mm → Prop) (M : Mm) (a0 : Nat) (x1 : Int32) : Prop := mK M (mP M 126 a0 0) = 6 ∧ (vp_in x1 8 → w5_wipe (fun M1 => post 1 M1) M (mP M 126 a0 0) x1) ∧ (¬ vp_in x1 8 → mK M (mP M 600 (mP M 126 a0 0) 0) = 21 ∧ post 0 (sZ M 3))
/-- the class's cell(end, row, column, what) -/
def w0_cell (post : Int32 → Mm → Prop) (M : Mm) (a0 : Nat) (x1 x2 x3 x4 : Int32) : Prop :=
  ((x1 < 0 ∨ 3 < x1 ∨ x4 < 0 ∨ 1 < x4) → post (-1) M) ∧ (¬ (x1 < 0 ∨ 3 < x1 ∨ x4 < 0 ∨ 1 < x4) → w0_seen (fun (r : Nat) (M1 : Mm) =>
    (x4 = 0 → mK M1 (mP M1 600 r 0) = 21 ∧ (vp_in x2 8 → mK M1 (mP M1 21 (mP M1 600 r 0) x2.toNatClampNeg) = 20 ∧ (vp_in x3 24 → post (mI M1 20 (mP M1 21 (mP M1 600 r 0) x2.toNatClampNeg) x3.toNatClampNeg) M1) ∧ (¬ vp_in x3 24 → post (-1) (sZ M1 3))) ∧ (¬ vp_in x2 8 → post (-1) (sZ M1 3))) ∧
    (¬ x4 = 0 → mK M1 (mP M1 601 r 0) = 21 ∧ (vp_in x2 8 → mK M1 (mP M1 21 (mP M1 601 r 0) x2.toNatClampNeg) = 20 ∧ (vp_in x3 24 → post (mI M1 20 (mP M1 21 (mP M1 601 r 0) x2.toNatClampNeg) x3.toNatClampNeg) M1) ∧ (¬ vp_in x3 24 → post (-1) (sZ M1 3))) ∧ (¬ vp_in x2 8 → post (-1) (sZ M1 3)))) M a0 x1)
abbrev rm0_wipe : Room := { frames := 12, cells := 3, slots := 222, locals := 10400 }
abbrev rm0_cell : Room := { frames := 12, cells := 3, slots := 222, locals := 10400 }
theorem m0_wipe (l : Launch) (hl0 : l.stackTraces = false) (g : CG) (AD : Nat → Prop) (M : Mm) (a0 : Nat) (x1 : Int32) (post : Int32 → Mm → Prop) (hk_a0 : mK M a0 = 1) (hw : w0_wipe post M a0 x1) : Met l yX0_wipe (wsW_ yX0_wipe cX0_wipe 3 (some .boolean) [(0, 9, 10, 199)]) rm0_wipe (CPc g AD M [.ref a0, .int x1]) (CQi g AD M post) 3 222 AD := by
  sorry
theorem m0_cell (l : Launch) (hl0 : l.stackTraces = false) (g : CG) (AD : Nat → Prop) (M : Mm) (a0 : Nat) (x1 x2 x3 x4 : Int32) (post : Int32 → Mm → Prop) (hk_a0 : mK M a0 = 1) (hw : w0_cell post M a0 x1 x2 x3 x4) : Met l yX0_cell (wsW_ yX0_cell cX0_cell 6 (some .int) [(22, 55, 56, 199)]) rm0_cell (CPc g AD M [.ref a0, .int x1, .int x2, .int x3, .int x4]) (CQi g AD M post) 3 222 AD := by
  sorry
