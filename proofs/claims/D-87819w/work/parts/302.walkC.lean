/-! FarTypewriter$Letter.copies(LFarTypewriter$Letter;)V -/
abbrev rm2_copies : Room := { frames := 1, cells := 0, slots := 0, locals := 200 }
def w2_copies (post : Mm → Prop) (M : Mm) (a0 : Nat) (a1 : Nat) : Prop :=
  mK M (mP M 300 a1 0) = 22 ∧ (mK M (mP M 300 a0 0) = 22 ∧ (¬ (mI M 301 a1 0) < 0 ∧ ((0 : Int32).toNatClampNeg + (mI M 301 a1 0).toNatClampNeg ≤ 1100 ∧ ((0 : Int32).toNatClampNeg + (mI M 301 a1 0).toNatClampNeg ≤ 1100 ∧ ((∀ i7 : Nat, i7 < (mI M 301 a1 0).toNatClampNeg → fits .byte (.int (mI M 22 (mP M 300 a1 0) ((0 : Int32).toNatClampNeg + i7))) = true) ∧ (∀ M8 : Mm, M8 = cI M 22 (mP M 300 a1 0) (mP M 300 a0 0) (0 : Int32).toNatClampNeg (0 : Int32).toNatClampNeg (mI M 301 a1 0).toNatClampNeg → (∀ M12 : Mm, M12 = sI M8 301 a0 0 (mI M8 301 a1 0) → (post M12))))))))
set_option maxHeartbeats 4000000 in
set_option maxRecDepth 100000 in
theorem m2_copies (l : Launch) (g : CG) (AD : Nat → Prop) (M : Mm) (a0 : Nat) (a1 : Nat) (post : Mm → Prop) (hk_a0 : mK M a0 = 3) (hk_a1 : mK M a1 = 3) (hw : w2_copies post M a0 a1) : Met l yX2_copies (ws_ yX2_copies cX2_copies 2 none) rm2_copies (CPc g AD M [.ref a0, .ref a1]) (CQv g AD M post) 0 0 AD := by
  refine Met.ofW (cc := cX2_copies) (maxL := 2) (ret := none) (by decide) rfl ?_
  intro p e s m args below meth c s₁ B hml hv
  obtain ⟨rfl, hK, hH, hA⟩ := hv
  have hx := B.exec
  have hb := B.bytes
  have hr : meth.sig.returnType = none := B.returns
  have hts := atoms_spec (ws := ws_ yX2_copies cX2_copies 2 none) B.pre
  have hts : ∀ w ∈ lw_all, w.before _ s = true := fun w h => hts w (List.mem_cons_of_mem _ h)
  have hown : s.vm.findClass RX2 = some m.cls := findClass_of_methodNamed B.named
  have hlocks : meth.locks = false := B.notSynchronized
  have S : CallFix p m c cX2_copies 2 s _ lw_all RX2 := ⟨hx, hb, hml, hown, hts⟩
  have hS : va_S AD s.heap s.heap [] := va_S.rf
  have hE : Ext M M := Ext.rf
  have hl := lv_entry ([.ref a0, .ref a1]) (n := 2) (Nat.le_of_ble_eq_true rfl)
  rw [lg_entry_eq]
  generalize (lg_sl ([.ref a0, .ref a1]) ++ List.replicate (2 - (lg_sl ([.ref a0, .ref a1])).length) Slot.unset).toArray = ls at hl ⊢
  have hl : lv_has ls 2 [(0, .ref a0), (1, .ref a1)] := hl
  unfold w2_copies at hw
  refine lv_aload_n hx hb dX2_copies_0 rfl (lv_at hl 1 rfl) ?_
  have hk1 := hw.1
  have hw := hw.2
  refine co_getr S hK hH 2 0 300 (by decide) ⟨by decide, rfl, rfl, rfl⟩ (Or.inl q97) hk_a1 (by rw [hk1]; decide) dX2_copies_1 ?_
  refine lv_iconst (v := 0) hx hb dX2_copies_4 (by decide) ?_
  refine lv_aload_n hx hb dX2_copies_5 rfl (lv_at hl 0 rfl) ?_
  have hk2 := hw.1
  have hw := hw.2
  refine co_getr S hK hH 2 0 300 (by decide) ⟨by decide, rfl, rfl, rfl⟩ (Or.inl q97) hk_a0 (by rw [hk2]; decide) dX2_copies_6 ?_
  refine lv_iconst (v := 0) hx hb dX2_copies_9 (by decide) ?_
  refine lv_aload_n hx hb dX2_copies_10 rfl (lv_at hl 1 rfl) ?_
  refine co_geti S hK hH 2 1 301 (by decide) ⟨by decide, rfl, rfl, rfl⟩ (Or.inl q99) hk_a1 dX2_copies_11 ?_
  have hg3 := hw.1
  have hw := hw.2
  have hg4 := hw.1
  have hw := hw.2
  have hg5 := hw.1
  have hw := hw.2
  have hg6 := hw.1
  have hw := hw.2
  refine co_copyb S hK hH hS hl.1 2 22 ⟨by decide, rfl, rfl⟩ hk1 hk2 q611 q252 q251 q63 (by decide) (by decide) hg3 hg4 hg5 hg6 (Nat.le_of_ble_eq_true rfl) (by decide) dX2_copies_14 (fun H locs hH hS => ?_)
  obtain ⟨M8, eM8⟩ : ∃ y : Mm, y = cI M 22 (mP M 300 a1 0) (mP M 300 a0 0) (0 : Int32).toNatClampNeg (0 : Int32).toNatClampNeg (mI M 301 a1 0).toNatClampNeg := ⟨_, rfl⟩
  have hw := hw M8 eM8
  rw [← eM8] at hH
  have hE9 : Ext M M8 := by rw [eM8]; exact Ext.cI
  have hk10 := hE9.k hk_a0 (by decide)
  have hk11 := hE9.k hk_a1 (by decide)
  have hE := hE.tr hE9
  refine lv_aload_n hx hb dX2_copies_17 rfl (lv_at hl 0 rfl) ?_
  refine lv_aload_n hx hb dX2_copies_18 rfl (lv_at hl 1 rfl) ?_
  refine co_geti S hK hH 2 1 301 (by decide) ⟨by decide, rfl, rfl, rfl⟩ (Or.inl q99) hk11 dX2_copies_19 ?_
  refine co_puti S hK hH hS 2 1 301 (by decide) ⟨by decide, rfl, rfl, rfl, rfl⟩ (Or.inl q99) hk10 ⟨rfl, rfl⟩ dX2_copies_22 (fun H locs hH hS => ?_)
  obtain ⟨M12, eM12⟩ : ∃ y : Mm, y = sI M8 301 a0 0 (mI M8 301 a1 0) := ⟨_, rfl⟩
  have hw := hw M12 eM12
  rw [← eM12] at hH
  have hE13 : Ext M8 M12 := by rw [eM12]; exact Ext.sI
  have hk14 := hE13.k hk10 (by decide)
  have hk15 := hE13.k hk11 (by decide)
  have hE := hE.tr hE13
  exact co_vret S hr hlocks hH hE hS hw dX2_copies_25
/-! FarTypewriter$Letter.twoAt(I)I -/
abbrev rm2_twoAt : Room := { frames := 1, cells := 0, slots := 0, locals := 21 }
def w2_twoAt (post : Int32 → Mm → Prop) (M : Mm) (a0 : Nat) (x1 : Int32) : Prop :=
  w2_at (fun (r2 : Int32) (M1 : Mm) => w2_at (fun (r7 : Int32) (M6 : Mm) => post ((r2 <<< ((8 : Int32) &&& 31)) ||| r7) M6) M1 a0 (x1 + 1)) M a0 x1
set_option maxHeartbeats 4000000 in
set_option maxRecDepth 100000 in
theorem m2_twoAt (l : Launch) (g : CG) (AD : Nat → Prop) (M : Mm) (a0 : Nat) (x1 : Int32) (post : Int32 → Mm → Prop) (hk_a0 : mK M a0 = 3) (hw : w2_twoAt post M a0 x1) : Met l yX2_twoAt (ws_ yX2_twoAt cX2_twoAt 2 (some .int)) rm2_twoAt (CPc g AD M [.ref a0, .int x1]) (CQi g AD M post) 0 0 AD := by
  refine Met.ofW (cc := cX2_twoAt) (maxL := 2) (ret := (some .int)) (by decide) rfl ?_
  intro p e s m args below meth c s₁ B hml hv
  obtain ⟨rfl, hK, hH, hA⟩ := hv
  have hx := B.exec
  have hb := B.bytes
  have hr : meth.sig.returnType = (some .int) := B.returns
  have hts := atoms_spec (ws := ws_ yX2_twoAt cX2_twoAt 2 (some .int)) B.pre
  have hts : ∀ w ∈ lw_all, w.before _ s = true := fun w h => hts w (List.mem_cons_of_mem _ h)
  have hown : s.vm.findClass RX2 = some m.cls := findClass_of_methodNamed B.named
  have hlocks : meth.locks = false := B.notSynchronized
  have S : CallFix p m c cX2_twoAt 2 s _ lw_all RX2 := ⟨hx, hb, hml, hown, hts⟩
  have hS : va_S AD s.heap s.heap [] := va_S.rf
  have hE : Ext M M := Ext.rf
  have hl := lv_entry ([.ref a0, .int x1]) (n := 2) (Nat.le_of_ble_eq_true rfl)
  rw [lg_entry_eq]
  generalize (lg_sl ([.ref a0, .int x1]) ++ List.replicate (2 - (lg_sl ([.ref a0, .int x1])).length) Slot.unset).toArray = ls at hl ⊢
  have hl : lv_has ls 2 [(0, .ref a0), (1, .int x1)] := hl
  unfold w2_twoAt at hw
  refine lv_aload_n hx hb dX2_twoAt_0 rfl (lv_at hl 0 rfl) ?_
  refine lv_iload_n hx hb dX2_twoAt_1 rfl (lv_at hl 1 rfl) ?_
  refine co_calli (va_runV (As := [.int x1]) (rest := []) S (m2_at l g AD M a0 x1 _ hk_a0 hw) (cwV 1 hts (lw_V q602 q603 q604 q56 q605) rfl rfl rfl (by decide +kernel) ⟨Nat.le_of_ble_eq_true rfl, Nat.le_of_ble_eq_true rfl⟩) ⟨co_blind, co_recv hK hH (c := 2) (by decide) hk_a0, co_pre hK hH hA hS⟩ rfl rfl hl.1 rfl (lv_room (Nat.le_of_ble_eq_true rfl)) dX2_twoAt_2 ⟨Nat.le_refl _, Nat.le_refl _⟩) hS (fun r2 M1 H locs hw hH hE3 hS => ?_)
  have hk5 := hE3.k hk_a0 (by decide)
  have hE := hE.tr hE3
  refine lv_bipush (v := 8) hx hb dX2_twoAt_5 (by decide) ?_
  refine lv_ishl hx hb dX2_twoAt_7 ?_
  refine lv_aload_n hx hb dX2_twoAt_8 rfl (lv_at hl 0 rfl) ?_
  refine lv_iload_n hx hb dX2_twoAt_9 rfl (lv_at hl 1 rfl) ?_
  refine lv_iconst (v := 1) hx hb dX2_twoAt_10 (by decide) ?_
  refine lv_iadd hx hb dX2_twoAt_11 ?_
  refine co_calli (va_runV (As := [.int (x1 + 1)]) (rest := [.int (r2 <<< ((8 : Int32) &&& 31))]) S (m2_at l g AD M1 a0 (x1 + 1) _ hk5 hw) (cwV 1 hts (lw_V q602 q603 q604 q56 q605) rfl rfl rfl (by decide +kernel) ⟨Nat.le_of_ble_eq_true rfl, Nat.le_of_ble_eq_true rfl⟩) ⟨co_blind, co_recv hK hH (c := 2) (by decide) hk5, co_pre hK hH hA hS⟩ rfl rfl hl.1 rfl (lv_room (Nat.le_of_ble_eq_true rfl)) dX2_twoAt_12 ⟨Nat.le_refl _, Nat.le_refl _⟩) hS (fun r7 M6 H locs hw hH hE8 hS => ?_)
  have hk10 := hE8.k hk5 (by decide)
  have hE := hE.tr hE8
  refine lv_ior hx hb dX2_twoAt_15 ?_
  exact co_iret S hr hlocks hH hE hS hw dX2_twoAt_16
/-! FarTypewriter$Letter.sum(I)I -/
abbrev rm2_sum : Room := { frames := 1, cells := 0, slots := 0, locals := 21 }
def b2_sum_4 (post : Int32 → Mm → Prop)  (kb : Mm → Nat → Int32 → Int32 → Int32 → Prop) (M : Mm) (a0 : Nat) (x1 : Int32) (x2 : Int32) (x3 : Int32) : Prop :=
  (x1 ≤ x3 → post x2 M) ∧ (¬ x1 ≤ x3 → w2_at (fun (r3 : Int32) (M2 : Mm) => ∀ y2_7 : Int32, y2_7 = (((31 : Int32) * x2) + r3) - (((31 : Int32) * x2) + r3) / 65521 * 65521 → (kb M2 a0 x1 y2_7 (x3 + 1))) M a0 x3)
def w2_sum_4 (post : Int32 → Mm → Prop)  : Nat → Mm → Nat → Int32 → Int32 → Int32 → Prop
  | 0 => fun _ _ _ _ _ => False
  | n + 1 => b2_sum_4 post  (w2_sum_4 post  n)
set_option maxHeartbeats 4000000 in
set_option maxRecDepth 100000 in
theorem r2_sum_4 {p : Program} {l : Launch} {e : Env} {s : State} {m : MethodId} {args : Array Value} {below : List Frame} {meth : Method} {c : Code} {g : CG} {AD : Nat → Prop} {M0 : Mm} (S : CallFix p m c cX2_sum 4 s args lw_all RX2) (hr : meth.sig.returnType = (some .int)) (hlocks : meth.locks = false) (hK : KC g s) (hA : ∀ q, s.heap.size ≤ q → AD q) {post : Int32 → Mm → Prop}  : ∀ n : Nat, ∀ (M : Mm) (a0 : Nat) (x1 : Int32) (x2 : Int32) (x3 : Int32), w2_sum_4 post  n M a0 x1 x2 x3 → Ext M0 M → mK M a0 = 3 → ∀ (H : Heap) (locs : List Loc), HC g AD M H → va_S AD s.heap H locs → ∀ (ls : Array Slot), lv_has ls 4 [(0, .ref a0), (1, .int x1), (2, .int x2), (3, .int x3)] → W p l e rm2_sum s m args below meth c H locs 0 0 (MQ below (CQi g AD M0 post) args s 0 0 AD) (F0 m 4 ls []) := by
  have hx := S.1
  have hb := S.2.1
  have hown := S.2.2.2.1
  have hts := S.2.2.2.2
  intro n
  induction n with
  | zero =>
    intro M a0 x1 x2 x3 hw
    exact hw.elim
  | succ n hkb =>
    intro M a0 x1 x2 x3 hw hE hk_a0 H locs hH hS ls hl
    unfold w2_sum_4 b2_sum_4 at hw
    refine lv_iload_n hx hb dX2_sum_4 rfl (lv_at hl 3 rfl) ?_
    refine lv_iload_n hx hb dX2_sum_5 rfl (lv_at hl 1 rfl) ?_
    refine lv_icmp_ge (tgt := 29) hx hb dX2_sum_6 (by decide) (fun c1 => ?_) (fun c1 => ?_)
    · have hw := hw.1 c1
      refine lv_iload_n hx hb dX2_sum_29 rfl (lv_at hl 2 rfl) ?_
      exact co_iret S hr hlocks hH hE hS hw dX2_sum_30
    · have hw := hw.2 c1
      refine lv_bipush (v := 31) hx hb dX2_sum_9 (by decide) ?_
      refine lv_iload_n hx hb dX2_sum_11 rfl (lv_at hl 2 rfl) ?_
      refine lv_imul hx hb dX2_sum_12 ?_
      refine lv_aload_n hx hb dX2_sum_13 rfl (lv_at hl 0 rfl) ?_
      refine lv_iload_n hx hb dX2_sum_14 rfl (lv_at hl 3 rfl) ?_
      refine co_calli (va_runV (As := [.int x3]) (rest := [.int ((31 : Int32) * x2)]) S (m2_at l g AD M a0 x3 _ hk_a0 hw) (cwV 1 hts (lw_V q602 q603 q604 q56 q605) rfl rfl rfl (by decide +kernel) ⟨Nat.le_of_ble_eq_true rfl, Nat.le_of_ble_eq_true rfl⟩) ⟨co_blind, co_recv hK hH (c := 2) (by decide) hk_a0, co_pre hK hH hA hS⟩ rfl rfl hl.1 rfl (lv_room (Nat.le_of_ble_eq_true rfl)) dX2_sum_15 ⟨Nat.le_refl _, Nat.le_refl _⟩) hS (fun r3 M2 H locs hw hH hE4 hS => ?_)
      have hk6 := hE4.k hk_a0 (by decide)
      have hE := hE.tr hE4
      refine lv_iadd hx hb dX2_sum_18 ?_
      refine lv_ldc (v := 65521) hx hb hown (hts _ q606) dX2_sum_19 ?_
      refine lv_irem hx hb dX2_sum_21 (by decide) ?_
      refine lv_topi (fun y2_7 ey2_7 => ?_)
      have hw := hw y2_7 ey2_7
      refine lv_istore_n (lv' := [(2, .int y2_7), (0, .ref a0), (1, .int x1), (3, .int x3)]) hx hb dX2_sum_22 rfl hl (by decide) rfl (fun ls hl => ?_)
      refine lv_iinc (v := x3 + 1) (lv' := [(3, .int (x3 + 1)), (2, .int y2_7), (0, .ref a0), (1, .int x1)]) hx hb dX2_sum_23 hl (k := 3) rfl rfl (by decide) rfl (fun ls hl => ?_)
      refine lv_goto (tgt := 4) hx hb dX2_sum_26 (by decide) ?_
      exact hkb _ _ _ _ _ hw hE hk6 _ _ hH hS _ (lv_sub hl [2, 3, 1, 0] rfl)
def w2_sum (post : Int32 → Mm → Prop) (M : Mm) (a0 : Nat) (x1 : Int32) : Prop :=
  ∃ n, w2_sum_4 post  n M a0 x1 1 0
set_option maxHeartbeats 4000000 in
set_option maxRecDepth 100000 in
theorem m2_sum (l : Launch) (g : CG) (AD : Nat → Prop) (M : Mm) (a0 : Nat) (x1 : Int32) (post : Int32 → Mm → Prop) (hk_a0 : mK M a0 = 3) (hw : w2_sum post M a0 x1) : Met l yX2_sum (ws_ yX2_sum cX2_sum 4 (some .int)) rm2_sum (CPc g AD M [.ref a0, .int x1]) (CQi g AD M post) 0 0 AD := by
  refine Met.ofW (cc := cX2_sum) (maxL := 4) (ret := (some .int)) (by decide) rfl ?_
  intro p e s m args below meth c s₁ B hml hv
  obtain ⟨rfl, hK, hH, hA⟩ := hv
  have hx := B.exec
  have hb := B.bytes
  have hr : meth.sig.returnType = (some .int) := B.returns
  have hts := atoms_spec (ws := ws_ yX2_sum cX2_sum 4 (some .int)) B.pre
  have hts : ∀ w ∈ lw_all, w.before _ s = true := fun w h => hts w (List.mem_cons_of_mem _ h)
  have hown : s.vm.findClass RX2 = some m.cls := findClass_of_methodNamed B.named
  have hlocks : meth.locks = false := B.notSynchronized
  have S : CallFix p m c cX2_sum 4 s _ lw_all RX2 := ⟨hx, hb, hml, hown, hts⟩
  have hS : va_S AD s.heap s.heap [] := va_S.rf
  have hE : Ext M M := Ext.rf
  have hl := lv_entry ([.ref a0, .int x1]) (n := 4) (Nat.le_of_ble_eq_true rfl)
  rw [lg_entry_eq]
  generalize (lg_sl ([.ref a0, .int x1]) ++ List.replicate (4 - (lg_sl ([.ref a0, .int x1])).length) Slot.unset).toArray = ls at hl ⊢
  have hl : lv_has ls 4 [(0, .ref a0), (1, .int x1)] := hl
  unfold w2_sum at hw
  refine lv_iconst (v := 1) hx hb dX2_sum_0 (by decide) ?_
  refine lv_istore_n (lv' := [(2, .int 1), (0, .ref a0), (1, .int x1)]) hx hb dX2_sum_1 rfl hl (by decide) rfl (fun ls hl => ?_)
  refine lv_iconst (v := 0) hx hb dX2_sum_2 (by decide) ?_
  refine lv_istore_n (lv' := [(3, .int 0), (2, .int 1), (0, .ref a0), (1, .int x1)]) hx hb dX2_sum_3 rfl hl (by decide) rfl (fun ls hl => ?_)
  obtain ⟨n, hw⟩ := hw
  refine r2_sum_4 S hr hlocks hK hA  n _ _ _ _ _ hw hE hk_a0 _ _ hH hS _ (lv_sub hl [2, 3, 1, 0] rfl)
/-! FarTypewriter$Letter.isWhole(I)Z -/
abbrev rm2_isWhole : Room := { frames := 2, cells := 0, slots := 0, locals := 44 }
def w2_isWhole (post : Int32 → Mm → Prop) (M : Mm) (a0 : Nat) (x1 : Int32) : Prop :=
  ((mI M 301 a0 0) ≤ 2 → post 0 M) ∧ (¬ (mI M 301 a0 0) ≤ 2 → w2_at (fun (r3 : Int32) (M2 : Mm) => (r3 = x1 → w2_twoAt (fun (r9 : Int32) (M8 : Mm) => w2_sum (fun (r14 : Int32) (M13 : Mm) => (r9 = r14 → post 1 M13) ∧ (¬ r9 = r14 → post 0 M13)) M8 a0 ((mI M8 301 a0 0) - 2)) M2 a0 ((mI M2 301 a0 0) - 2)) ∧ (¬ r3 = x1 → post 0 M2)) M a0 0)
set_option maxHeartbeats 4000000 in
set_option maxRecDepth 100000 in
theorem m2_isWhole (l : Launch) (g : CG) (AD : Nat → Prop) (M : Mm) (a0 : Nat) (x1 : Int32) (post : Int32 → Mm → Prop) (hk_a0 : mK M a0 = 3) (hw : w2_isWhole post M a0 x1) : Met l yX2_isWhole (ws_ yX2_isWhole cX2_isWhole 2 (some .boolean)) rm2_isWhole (CPc g AD M [.ref a0, .int x1]) (CQi g AD M post) 0 0 AD := by
  refine Met.ofW (cc := cX2_isWhole) (maxL := 2) (ret := (some .boolean)) (by decide) rfl ?_
  intro p e s m args below meth c s₁ B hml hv
  obtain ⟨rfl, hK, hH, hA⟩ := hv
  have hx := B.exec
  have hb := B.bytes
  have hr : meth.sig.returnType = (some .boolean) := B.returns
  have hts := atoms_spec (ws := ws_ yX2_isWhole cX2_isWhole 2 (some .boolean)) B.pre
  have hts : ∀ w ∈ lw_all, w.before _ s = true := fun w h => hts w (List.mem_cons_of_mem _ h)
  have hown : s.vm.findClass RX2 = some m.cls := findClass_of_methodNamed B.named
  have hlocks : meth.locks = false := B.notSynchronized
  have S : CallFix p m c cX2_isWhole 2 s _ lw_all RX2 := ⟨hx, hb, hml, hown, hts⟩
  have hS : va_S AD s.heap s.heap [] := va_S.rf
  have hE : Ext M M := Ext.rf
  have hl := lv_entry ([.ref a0, .int x1]) (n := 2) (Nat.le_of_ble_eq_true rfl)
  rw [lg_entry_eq]
  generalize (lg_sl ([.ref a0, .int x1]) ++ List.replicate (2 - (lg_sl ([.ref a0, .int x1])).length) Slot.unset).toArray = ls at hl ⊢
  have hl : lv_has ls 2 [(0, .ref a0), (1, .int x1)] := hl
  unfold w2_isWhole at hw
  refine lv_aload_n hx hb dX2_isWhole_0 rfl (lv_at hl 0 rfl) ?_
  refine co_geti S hK hH 2 1 301 (by decide) ⟨by decide, rfl, rfl, rfl⟩ (Or.inl q99) hk_a0 dX2_isWhole_1 ?_
  refine lv_iconst (v := 2) hx hb dX2_isWhole_4 (by decide) ?_
  refine lv_icmp_le (tgt := 44) hx hb dX2_isWhole_5 (by decide) (fun c1 => ?_) (fun c1 => ?_)
  · have hw := hw.1 c1
    refine lv_iconst (v := 0) hx hb dX2_isWhole_44 (by decide) ?_
    exact co_zret S hr hlocks hH hE hS rfl hw dX2_isWhole_45
  · have hw := hw.2 c1
    refine lv_aload_n hx hb dX2_isWhole_8 rfl (lv_at hl 0 rfl) ?_
    refine lv_iconst (v := 0) hx hb dX2_isWhole_9 (by decide) ?_
    refine co_calli (va_runV (As := [.int 0]) (rest := []) S (m2_at l g AD M a0 0 _ hk_a0 hw) (cwV 1 hts (lw_V q602 q603 q604 q56 q605) rfl rfl rfl (by decide +kernel) ⟨Nat.le_of_ble_eq_true rfl, Nat.le_of_ble_eq_true rfl⟩) ⟨co_blind, co_recv hK hH (c := 2) (by decide) hk_a0, co_pre hK hH hA hS⟩ rfl rfl hl.1 rfl (lv_room (Nat.le_of_ble_eq_true rfl)) dX2_isWhole_10 ⟨Nat.le_refl _, Nat.le_refl _⟩) hS (fun r3 M2 H locs hw hH hE4 hS => ?_)
    have hk6 := hE4.k hk_a0 (by decide)
    have hE := hE.tr hE4
    refine lv_iload_n hx hb dX2_isWhole_13 rfl (lv_at hl 1 rfl) ?_
    refine lv_icmp_ne (tgt := 44) hx hb dX2_isWhole_14 (by decide) (fun c7 => ?_) (fun c7 => ?_)
    · have hw := hw.2 c7
      refine lv_iconst (v := 0) hx hb dX2_isWhole_44 (by decide) ?_
      exact co_zret S hr hlocks hH hE hS rfl hw dX2_isWhole_45
    · have hw := hw.1 c7
      refine lv_aload_n hx hb dX2_isWhole_17 rfl (lv_at hl 0 rfl) ?_
      refine lv_aload_n hx hb dX2_isWhole_18 rfl (lv_at hl 0 rfl) ?_
      refine co_geti S hK hH 2 1 301 (by decide) ⟨by decide, rfl, rfl, rfl⟩ (Or.inl q99) hk6 dX2_isWhole_19 ?_
      refine lv_iconst (v := 2) hx hb dX2_isWhole_22 (by decide) ?_
      refine lv_isub hx hb dX2_isWhole_23 ?_
      refine co_calli (va_runV (As := [.int ((mI M2 301 a0 0) - 2)]) (rest := []) S (m2_twoAt l g AD M2 a0 ((mI M2 301 a0 0) - 2) _ hk6 hw) (cwV 1 hts (lw_V q634 q635 q636 q56 q637) rfl rfl rfl (by decide +kernel) ⟨Nat.le_of_ble_eq_true rfl, Nat.le_of_ble_eq_true rfl⟩) ⟨co_blind, co_recv hK hH (c := 2) (by decide) hk6, co_pre hK hH hA hS⟩ rfl rfl hl.1 rfl (lv_room (Nat.le_of_ble_eq_true rfl)) dX2_isWhole_24 ⟨Nat.le_refl _, Nat.le_refl _⟩) hS (fun r9 M8 H locs hw hH hE10 hS => ?_)
      have hk12 := hE10.k hk6 (by decide)
      have hE := hE.tr hE10
      refine lv_aload_n hx hb dX2_isWhole_27 rfl (lv_at hl 0 rfl) ?_
      refine lv_aload_n hx hb dX2_isWhole_28 rfl (lv_at hl 0 rfl) ?_
      refine co_geti S hK hH 2 1 301 (by decide) ⟨by decide, rfl, rfl, rfl⟩ (Or.inl q99) hk12 dX2_isWhole_29 ?_
      refine lv_iconst (v := 2) hx hb dX2_isWhole_32 (by decide) ?_
      refine lv_isub hx hb dX2_isWhole_33 ?_
      refine co_calli (va_runV (As := [.int ((mI M8 301 a0 0) - 2)]) (rest := [.int r9]) S (m2_sum l g AD M8 a0 ((mI M8 301 a0 0) - 2) _ hk12 hw) (cwV 1 hts (lw_V q638 q599 q600 q56 q601) rfl rfl rfl (by decide +kernel) ⟨Nat.le_of_ble_eq_true rfl, Nat.le_of_ble_eq_true rfl⟩) ⟨co_blind, co_recv hK hH (c := 2) (by decide) hk12, co_pre hK hH hA hS⟩ rfl rfl hl.1 rfl (lv_room (Nat.le_of_ble_eq_true rfl)) dX2_isWhole_34 ⟨Nat.le_refl _, Nat.le_refl _⟩) hS (fun r14 M13 H locs hw hH hE15 hS => ?_)
      have hk17 := hE15.k hk12 (by decide)
      have hE := hE.tr hE15
      refine lv_icmp_ne (tgt := 44) hx hb dX2_isWhole_37 (by decide) (fun c18 => ?_) (fun c18 => ?_)
      · have hw := hw.2 c18
        refine lv_iconst (v := 0) hx hb dX2_isWhole_44 (by decide) ?_
        exact co_zret S hr hlocks hH hE hS rfl hw dX2_isWhole_45
      · have hw := hw.1 c18
        refine lv_iconst (v := 1) hx hb dX2_isWhole_40 (by decide) ?_
        refine lv_goto (tgt := 45) hx hb dX2_isWhole_41 (by decide) ?_
        exact co_zret S hr hlocks hH hE hS rfl hw dX2_isWhole_45
/-! FarTypewriter$Letter.put(I)V -/
abbrev rm2_put : Room := { frames := 0, cells := 0, slots := 0, locals := 0 }
def w2_put (post : Mm → Prop) (M : Mm) (a0 : Nat) (x1 : Int32) : Prop :=
  mK M (mP M 300 a0 0) = 22 ∧ (vp_in (mI M 301 a0 0) 1100 ∧ (∀ M3 : Mm, M3 = sI M 22 (mP M 300 a0 0) (mI M 301 a0 0).toNatClampNeg (x1.toInt8.toInt32).toInt8.toInt32 → (∀ M6 : Mm, M6 = sI M3 301 a0 0 ((mI M3 301 a0 0) + 1) → (post M6))))
set_option maxHeartbeats 4000000 in
set_option maxRecDepth 100000 in
theorem m2_put (l : Launch) (g : CG) (AD : Nat → Prop) (M : Mm) (a0 : Nat) (x1 : Int32) (post : Mm → Prop) (hk_a0 : mK M a0 = 3) (hw : w2_put post M a0 x1) : Met l yX2_put (ws_ yX2_put cX2_put 2 none) rm2_put (CPc g AD M [.ref a0, .int x1]) (CQv g AD M post) 0 0 AD := by
  refine Met.ofW (cc := cX2_put) (maxL := 2) (ret := none) (by decide) rfl ?_
  intro p e s m args below meth c s₁ B hml hv
  obtain ⟨rfl, hK, hH, hA⟩ := hv
  have hx := B.exec
  have hb := B.bytes
  have hr : meth.sig.returnType = none := B.returns
  have hts := atoms_spec (ws := ws_ yX2_put cX2_put 2 none) B.pre
  have hts : ∀ w ∈ lw_all, w.before _ s = true := fun w h => hts w (List.mem_cons_of_mem _ h)
  have hown : s.vm.findClass RX2 = some m.cls := findClass_of_methodNamed B.named
  have hlocks : meth.locks = false := B.notSynchronized
  have S : CallFix p m c cX2_put 2 s _ lw_all RX2 := ⟨hx, hb, hml, hown, hts⟩
  have hS : va_S AD s.heap s.heap [] := va_S.rf
  have hE : Ext M M := Ext.rf
  have hl := lv_entry ([.ref a0, .int x1]) (n := 2) (Nat.le_of_ble_eq_true rfl)
  rw [lg_entry_eq]
  generalize (lg_sl ([.ref a0, .int x1]) ++ List.replicate (2 - (lg_sl ([.ref a0, .int x1])).length) Slot.unset).toArray = ls at hl ⊢
  have hl : lv_has ls 2 [(0, .ref a0), (1, .int x1)] := hl
  unfold w2_put at hw
  refine lv_aload_n hx hb dX2_put_0 rfl (lv_at hl 0 rfl) ?_
  have hk1 := hw.1
  have hw := hw.2
  refine co_getr S hK hH 2 0 300 (by decide) ⟨by decide, rfl, rfl, rfl⟩ (Or.inl q97) hk_a0 (by rw [hk1]; decide) dX2_put_1 ?_
  refine lv_aload_n hx hb dX2_put_4 rfl (lv_at hl 0 rfl) ?_
  refine co_geti S hK hH 2 1 301 (by decide) ⟨by decide, rfl, rfl, rfl⟩ (Or.inl q99) hk_a0 dX2_put_5 ?_
  refine lv_iload_n hx hb dX2_put_8 rfl (lv_at hl 1 rfl) ?_
  refine lv_i2b (v := x1.toInt8.toInt32) hx hb dX2_put_9 rfl ?_
  have hin2 := hw.1
  have hw := hw.2
  refine co_bast S hK hH hS 2 22 ⟨by decide, rfl, rfl⟩ hk1 hin2 dX2_put_10 (fun H locs hH hS => ?_)
  obtain ⟨M3, eM3⟩ : ∃ y : Mm, y = sI M 22 (mP M 300 a0 0) (mI M 301 a0 0).toNatClampNeg (x1.toInt8.toInt32).toInt8.toInt32 := ⟨_, rfl⟩
  have hw := hw M3 eM3
  rw [← eM3] at hH
  have hE4 : Ext M M3 := by rw [eM3]; exact Ext.sI
  have hk5 := hE4.k hk_a0 (by decide)
  have hE := hE.tr hE4
  refine lv_aload_n hx hb dX2_put_11 rfl (lv_at hl 0 rfl) ?_
  refine lv_dup hx hb dX2_put_12 rfl ?_
  refine co_geti S hK hH 2 1 301 (by decide) ⟨by decide, rfl, rfl, rfl⟩ (Or.inl q99) hk5 dX2_put_13 ?_
  refine lv_iconst (v := 1) hx hb dX2_put_16 (by decide) ?_
  refine lv_iadd hx hb dX2_put_17 ?_
  refine co_puti S hK hH hS 2 1 301 (by decide) ⟨by decide, rfl, rfl, rfl, rfl⟩ (Or.inl q99) hk5 ⟨rfl, rfl⟩ dX2_put_18 (fun H locs hH hS => ?_)
  obtain ⟨M6, eM6⟩ : ∃ y : Mm, y = sI M3 301 a0 0 ((mI M3 301 a0 0) + 1) := ⟨_, rfl⟩
  have hw := hw M6 eM6
  rw [← eM6] at hH
  have hE7 : Ext M3 M6 := by rw [eM6]; exact Ext.sI
  have hk8 := hE7.k hk5 (by decide)
  have hE := hE.tr hE7
  exact co_vret S hr hlocks hH hE hS hw dX2_put_21
/-! FarTypewriter$Letter.two(I)V -/
abbrev rm2_two : Room := { frames := 1, cells := 0, slots := 0, locals := 21 }
def w2_two (post : Mm → Prop) (M : Mm) (a0 : Nat) (x1 : Int32) : Prop :=
  w2_put (fun (M1 : Mm) => w2_put (fun (M6 : Mm) => post M6) M1 a0 x1) M a0 (x1 >>> ((8 : Int32) &&& 31))
set_option maxHeartbeats 4000000 in
set_option maxRecDepth 100000 in
theorem m2_two (l : Launch) (g : CG) (AD : Nat → Prop) (M : Mm) (a0 : Nat) (x1 : Int32) (post : Mm → Prop) (hk_a0 : mK M a0 = 3) (hw : w2_two post M a0 x1) : Met l yX2_two (ws_ yX2_two cX2_two 2 none) rm2_two (CPc g AD M [.ref a0, .int x1]) (CQv g AD M post) 0 0 AD := by
  refine Met.ofW (cc := cX2_two) (maxL := 2) (ret := none) (by decide) rfl ?_
  intro p e s m args below meth c s₁ B hml hv
  obtain ⟨rfl, hK, hH, hA⟩ := hv
  have hx := B.exec
  have hb := B.bytes
  have hr : meth.sig.returnType = none := B.returns
  have hts := atoms_spec (ws := ws_ yX2_two cX2_two 2 none) B.pre
  have hts : ∀ w ∈ lw_all, w.before _ s = true := fun w h => hts w (List.mem_cons_of_mem _ h)
  have hown : s.vm.findClass RX2 = some m.cls := findClass_of_methodNamed B.named
  have hlocks : meth.locks = false := B.notSynchronized
  have S : CallFix p m c cX2_two 2 s _ lw_all RX2 := ⟨hx, hb, hml, hown, hts⟩
  have hS : va_S AD s.heap s.heap [] := va_S.rf
  have hE : Ext M M := Ext.rf
  have hl := lv_entry ([.ref a0, .int x1]) (n := 2) (Nat.le_of_ble_eq_true rfl)
  rw [lg_entry_eq]
  generalize (lg_sl ([.ref a0, .int x1]) ++ List.replicate (2 - (lg_sl ([.ref a0, .int x1])).length) Slot.unset).toArray = ls at hl ⊢
  have hl : lv_has ls 2 [(0, .ref a0), (1, .int x1)] := hl
  unfold w2_two at hw
  refine lv_aload_n hx hb dX2_two_0 rfl (lv_at hl 0 rfl) ?_
  refine lv_iload_n hx hb dX2_two_1 rfl (lv_at hl 1 rfl) ?_
  refine lv_bipush (v := 8) hx hb dX2_two_2 (by decide) ?_
  refine lv_ishr hx hb dX2_two_4 ?_
  refine co_callv (va_runV (As := [.int (x1 >>> ((8 : Int32) &&& 31))]) (rest := []) S (m2_put l g AD M a0 (x1 >>> ((8 : Int32) &&& 31)) _ hk_a0 hw) (cwV 1 hts (lw_V q577 q570 q571 q56 q572) rfl rfl rfl (by decide +kernel) ⟨Nat.le_of_ble_eq_true rfl, Nat.le_of_ble_eq_true rfl⟩) ⟨co_blind, co_recv hK hH (c := 2) (by decide) hk_a0, co_pre hK hH hA hS⟩ rfl rfl hl.1 rfl (lv_room (Nat.le_of_ble_eq_true rfl)) dX2_two_5 ⟨Nat.le_refl _, Nat.le_refl _⟩) hS (fun M1 H locs hw hH hE3 hS => ?_)
  have hk5 := hE3.k hk_a0 (by decide)
  have hE := hE.tr hE3
  refine lv_aload_n hx hb dX2_two_8 rfl (lv_at hl 0 rfl) ?_
  refine lv_iload_n hx hb dX2_two_9 rfl (lv_at hl 1 rfl) ?_
  refine co_callv (va_runV (As := [.int x1]) (rest := []) S (m2_put l g AD M1 a0 x1 _ hk5 hw) (cwV 1 hts (lw_V q577 q570 q571 q56 q572) rfl rfl rfl (by decide +kernel) ⟨Nat.le_of_ble_eq_true rfl, Nat.le_of_ble_eq_true rfl⟩) ⟨co_blind, co_recv hK hH (c := 2) (by decide) hk5, co_pre hK hH hA hS⟩ rfl rfl hl.1 rfl (lv_room (Nat.le_of_ble_eq_true rfl)) dX2_two_10 ⟨Nat.le_refl _, Nat.le_refl _⟩) hS (fun M6 H locs hw hH hE8 hS => ?_)
  have hk10 := hE8.k hk5 (by decide)
  have hE := hE.tr hE8
  exact co_vret S hr hlocks hH hE hS hw dX2_two_13
/-! FarTypewriter$Shelf.find(I)I -/
abbrev rm3_find : Room := { frames := 0, cells := 0, slots := 0, locals := 0 }
def w3_find_30 (post : Int32 → Mm → Prop) (kb : Mm → Nat → Int32 → Int32 → Int32 → Prop) (M : Mm) (a0 : Nat) (x1 : Int32) (x3 : Int32) (t0 : Int32) : Prop :=
  kb M a0 x1 t0 (x3 + 1)
set_option maxHeartbeats 4000000 in
set_option maxRecDepth 100000 in
theorem r3_find_30 {p : Program} {l : Launch} {e : Env} {s : State} {m : MethodId} {args : Array Value} {below : List Frame} {meth : Method} {c : Code} {g : CG} {AD : Nat → Prop} {M0 : Mm} (S : CallFix p m c cX3_find 4 s args lw_all RX3) (hr : meth.sig.returnType = (some .int)) (hlocks : meth.locks = false) (hK : KC g s) (hA : ∀ q, s.heap.size ≤ q → AD q) {post : Int32 → Mm → Prop} {kb : Mm → Nat → Int32 → Int32 → Int32 → Prop} (hkb : ∀ (M : Mm) (a0 : Nat) (x1 : Int32) (x2 : Int32) (x3 : Int32), kb M a0 x1 x2 x3 → Ext M0 M → mK M a0 = 4 → ∀ (H : Heap) (locs : List Loc), HC g AD M H → va_S AD s.heap H locs → ∀ (ls : Array Slot), lv_has ls 4 [(0, .ref a0), (1, .int x1), (2, .int x2), (3, .int x3)] → W p l e rm3_find s m args below meth c H locs 0 0 (MQ below (CQi g AD M0 post) args s 0 0 AD) (F0 m 4 ls [])) : ∀ (M : Mm) (a0 : Nat) (x1 : Int32) (x3 : Int32) (t0 : Int32), w3_find_30 post kb M a0 x1 x3 t0 → Ext M0 M → mK M a0 = 4 → ∀ (H : Heap) (locs : List Loc), HC g AD M H → va_S AD s.heap H locs → ∀ (ls : Array Slot), lv_has ls 4 [(0, .ref a0), (1, .int x1), (3, .int x3)] → W p l e rm3_find s m args below meth c H locs 0 0 (MQ below (CQi g AD M0 post) args s 0 0 AD) (F0 m 30 ls [.int t0]) := by
  have hx := S.1
  have hb := S.2.1
  have hown := S.2.2.2.1
  have hts := S.2.2.2.2
  intro M a0 x1 x3 t0 hw hE hk_a0 H locs hH hS ls hl
  unfold w3_find_30 at hw
  refine lv_istore_n (lv' := [(2, .int t0), (0, .ref a0), (1, .int x1), (3, .int x3)]) hx hb dX3_find_30 rfl hl (by decide) rfl (fun ls hl => ?_)
  refine lv_iinc (v := x3 + 1) (lv' := [(3, .int (x3 + 1)), (2, .int t0), (0, .ref a0), (1, .int x1)]) hx hb dX3_find_31 hl (k := 3) rfl rfl (by decide) rfl (fun ls hl => ?_)
  refine lv_goto (tgt := 4) hx hb dX3_find_34 (by decide) ?_
  exact hkb _ _ _ _ _ hw hE hk_a0 _ _ hH hS _ (lv_sub hl [2, 3, 1, 0] rfl)
def b3_find_4 (post : Int32 → Mm → Prop)  (kb : Mm → Nat → Int32 → Int32 → Int32 → Prop) (M : Mm) (a0 : Nat) (x1 : Int32) (x2 : Int32) (x3 : Int32) : Prop :=
  ((mI M 401 a0 0) ≤ x3 → post x2 M) ∧ (¬ (mI M 401 a0 0) ≤ x3 → mK M (mP M 400 a0 0) = 25 ∧ (vp_in x3 32 ∧ (mK M (mP M 25 (mP M 400 a0 0) x3.toNatClampNeg) = 5 ∧ (((mI M 501 (mP M 25 (mP M 400 a0 0) x3.toNatClampNeg) 0) = x1 → w3_find_30 post kb M a0 x1 x3 x3) ∧ (¬ (mI M 501 (mP M 25 (mP M 400 a0 0) x3.toNatClampNeg) 0) = x1 → w3_find_30 post kb M a0 x1 x3 x2)))))
def w3_find_4 (post : Int32 → Mm → Prop)  : Nat → Mm → Nat → Int32 → Int32 → Int32 → Prop
  | 0 => fun _ _ _ _ _ => False
  | n + 1 => b3_find_4 post  (w3_find_4 post  n)
set_option maxHeartbeats 4000000 in
set_option maxRecDepth 100000 in
theorem r3_find_4 {p : Program} {l : Launch} {e : Env} {s : State} {m : MethodId} {args : Array Value} {below : List Frame} {meth : Method} {c : Code} {g : CG} {AD : Nat → Prop} {M0 : Mm} (S : CallFix p m c cX3_find 4 s args lw_all RX3) (hr : meth.sig.returnType = (some .int)) (hlocks : meth.locks = false) (hK : KC g s) (hA : ∀ q, s.heap.size ≤ q → AD q) {post : Int32 → Mm → Prop}  : ∀ n : Nat, ∀ (M : Mm) (a0 : Nat) (x1 : Int32) (x2 : Int32) (x3 : Int32), w3_find_4 post  n M a0 x1 x2 x3 → Ext M0 M → mK M a0 = 4 → ∀ (H : Heap) (locs : List Loc), HC g AD M H → va_S AD s.heap H locs → ∀ (ls : Array Slot), lv_has ls 4 [(0, .ref a0), (1, .int x1), (2, .int x2), (3, .int x3)] → W p l e rm3_find s m args below meth c H locs 0 0 (MQ below (CQi g AD M0 post) args s 0 0 AD) (F0 m 4 ls []) := by
  have hx := S.1
  have hb := S.2.1
  have hown := S.2.2.2.1
  have hts := S.2.2.2.2
  intro n
  induction n with
  | zero =>
    intro M a0 x1 x2 x3 hw
    exact hw.elim
  | succ n hkb =>
    intro M a0 x1 x2 x3 hw hE hk_a0 H locs hH hS ls hl
    unfold w3_find_4 b3_find_4 at hw
    refine lv_iload_n hx hb dX3_find_4 rfl (lv_at hl 3 rfl) ?_
    refine lv_aload_n hx hb dX3_find_5 rfl (lv_at hl 0 rfl) ?_
    refine co_geti S hK hH 3 1 401 (by decide) ⟨by decide, rfl, rfl, rfl⟩ (Or.inl q187) hk_a0 dX3_find_6 ?_
    refine lv_icmp_ge (tgt := 37) hx hb dX3_find_9 (by decide) (fun c1 => ?_) (fun c1 => ?_)
    · have hw := hw.1 c1
      refine lv_iload_n hx hb dX3_find_37 rfl (lv_at hl 2 rfl) ?_
      exact co_iret S hr hlocks hH hE hS hw dX3_find_38
    · have hw := hw.2 c1
      refine lv_aload_n hx hb dX3_find_12 rfl (lv_at hl 0 rfl) ?_
      have hk2 := hw.1
      have hw := hw.2
      refine co_getr S hK hH 3 0 400 (by decide) ⟨by decide, rfl, rfl, rfl⟩ (Or.inl q185) hk_a0 (by rw [hk2]; decide) dX3_find_13 ?_
      refine lv_iload_n hx hb dX3_find_16 rfl (lv_at hl 3 rfl) ?_
      have hin3 := hw.1
      have hw := hw.2
      have hk4 := hw.1
      have hw := hw.2
      refine co_aald S hK hH 5 25 ⟨by decide, rfl, rfl⟩ hk2 hin3 (by rw [hk4]; decide) dX3_find_17 ?_
      refine co_geti S hK hH 4 1 501 (by decide) ⟨by decide, rfl, rfl, rfl⟩ (Or.inr ⟨_, q174⟩) hk4 dX3_find_18 ?_
      refine lv_iload_n hx hb dX3_find_21 rfl (lv_at hl 1 rfl) ?_
      refine lv_icmp_ne (tgt := 29) hx hb dX3_find_22 (by decide) (fun c5 => ?_) (fun c5 => ?_)
      · have hw := hw.2 c5
        refine lv_iload_n hx hb dX3_find_29 rfl (lv_at hl 2 rfl) ?_
        exact r3_find_30 S hr hlocks hK hA hkb _ _ _ _ _ hw hE hk_a0 _ _ hH hS _ (lv_sub hl [0, 1, 3] rfl)
      · have hw := hw.1 c5
        refine lv_iload_n hx hb dX3_find_25 rfl (lv_at hl 3 rfl) ?_
        refine lv_goto (tgt := 30) hx hb dX3_find_26 (by decide) ?_
        exact r3_find_30 S hr hlocks hK hA hkb _ _ _ _ _ hw hE hk_a0 _ _ hH hS _ (lv_sub hl [0, 1, 3] rfl)
def w3_find (post : Int32 → Mm → Prop) (M : Mm) (a0 : Nat) (x1 : Int32) : Prop :=
  ∃ n, w3_find_4 post  n M a0 x1 (-1) 0
set_option maxHeartbeats 4000000 in
set_option maxRecDepth 100000 in
theorem m3_find (l : Launch) (g : CG) (AD : Nat → Prop) (M : Mm) (a0 : Nat) (x1 : Int32) (post : Int32 → Mm → Prop) (hk_a0 : mK M a0 = 4) (hw : w3_find post M a0 x1) : Met l yX3_find (ws_ yX3_find cX3_find 4 (some .int)) rm3_find (CPc g AD M [.ref a0, .int x1]) (CQi g AD M post) 0 0 AD := by
  refine Met.ofW (cc := cX3_find) (maxL := 4) (ret := (some .int)) (by decide) rfl ?_
  intro p e s m args below meth c s₁ B hml hv
  obtain ⟨rfl, hK, hH, hA⟩ := hv
  have hx := B.exec
  have hb := B.bytes
  have hr : meth.sig.returnType = (some .int) := B.returns
  have hts := atoms_spec (ws := ws_ yX3_find cX3_find 4 (some .int)) B.pre
  have hts : ∀ w ∈ lw_all, w.before _ s = true := fun w h => hts w (List.mem_cons_of_mem _ h)
  have hown : s.vm.findClass RX3 = some m.cls := findClass_of_methodNamed B.named
  have hlocks : meth.locks = false := B.notSynchronized
  have S : CallFix p m c cX3_find 4 s _ lw_all RX3 := ⟨hx, hb, hml, hown, hts⟩
  have hS : va_S AD s.heap s.heap [] := va_S.rf
  have hE : Ext M M := Ext.rf
  have hl := lv_entry ([.ref a0, .int x1]) (n := 4) (Nat.le_of_ble_eq_true rfl)
  rw [lg_entry_eq]
  generalize (lg_sl ([.ref a0, .int x1]) ++ List.replicate (4 - (lg_sl ([.ref a0, .int x1])).length) Slot.unset).toArray = ls at hl ⊢
  have hl : lv_has ls 4 [(0, .ref a0), (1, .int x1)] := hl
  unfold w3_find at hw
  refine lv_iconst (v := (-1)) hx hb dX3_find_0 (by decide) ?_
  refine lv_istore_n (lv' := [(2, .int (-1)), (0, .ref a0), (1, .int x1)]) hx hb dX3_find_1 rfl hl (by decide) rfl (fun ls hl => ?_)
  refine lv_iconst (v := 0) hx hb dX3_find_2 (by decide) ?_
  refine lv_istore_n (lv' := [(3, .int 0), (2, .int (-1)), (0, .ref a0), (1, .int x1)]) hx hb dX3_find_3 rfl hl (by decide) rfl (fun ls hl => ?_)
  obtain ⟨n, hw⟩ := hw
  refine r3_find_4 S hr hlocks hK hA  n _ _ _ _ _ hw hE hk_a0 _ _ hH hS _ (lv_sub hl [2, 3, 1, 0] rfl)
/-! FarTypewriter$Shelf.goes(I)V -/
abbrev rm3_goes : Room := { frames := 1, cells := 0, slots := 0, locals := 200 }
def w3_goes (post : Mm → Prop) (M : Mm) (a0 : Nat) (x1 : Int32) : Prop :=
  mK M (mP M 400 a0 0) = 25 ∧ (vp_in x1 32 ∧ (mK M (mP M 25 (mP M 400 a0 0) x1.toNatClampNeg) = 5 ∧ (mK M (mP M 400 a0 0) = 25 ∧ (mK M (mP M 400 a0 0) = 25 ∧ (mK M (mP M 400 a0 0) = 25 ∧ (¬ (x1 + 1) < 0 ∧ (¬ x1 < 0 ∧ (¬ (((32 : Int32) - x1) - 1) < 0 ∧ ((x1 + 1).toNatClampNeg + (((32 : Int32) - x1) - 1).toNatClampNeg ≤ 32 ∧ (x1.toNatClampNeg + (((32 : Int32) - x1) - 1).toNatClampNeg ≤ 32 ∧ ((∀ i13 : Nat, i13 < (((32 : Int32) - x1) - 1).toNatClampNeg → mK M (mP M 25 (mP M 400 a0 0) ((x1 + 1).toNatClampNeg + i13)) = 5) ∧ (∀ M14 : Mm, M14 = cP M 25 (mP M 400 a0 0) (mP M 400 a0 0) (x1 + 1).toNatClampNeg x1.toNatClampNeg (((32 : Int32) - x1) - 1).toNatClampNeg → (mK M14 (mP M14 400 a0 0) = 25 ∧ (mK M14 (mP M14 400 a0 0) = 25 ∧ (vp_in ((32 : Int32) - 1) 32 ∧ (∀ M21 : Mm, M21 = sP M14 25 (mP M14 400 a0 0) ((32 : Int32) - 1).toNatClampNeg (mP M 25 (mP M 400 a0 0) x1.toNatClampNeg) → (∀ M25 : Mm, M25 = sI M21 401 a0 0 ((mI M21 401 a0 0) - 1) → (post M25))))))))))))))))))
set_option maxHeartbeats 4000000 in
set_option maxRecDepth 100000 in
theorem m3_goes (l : Launch) (g : CG) (AD : Nat → Prop) (M : Mm) (a0 : Nat) (x1 : Int32) (post : Mm → Prop) (hk_a0 : mK M a0 = 4) (hw : w3_goes post M a0 x1) : Met l yX3_goes (ws_ yX3_goes cX3_goes 3 none) rm3_goes (CPc g AD M [.ref a0, .int x1]) (CQv g AD M post) 0 0 AD := by
  refine Met.ofW (cc := cX3_goes) (maxL := 3) (ret := none) (by decide) rfl ?_
  intro p e s m args below meth c s₁ B hml hv
  obtain ⟨rfl, hK, hH, hA⟩ := hv
  have hx := B.exec
  have hb := B.bytes
  have hr : meth.sig.returnType = none := B.returns
  have hts := atoms_spec (ws := ws_ yX3_goes cX3_goes 3 none) B.pre
  have hts : ∀ w ∈ lw_all, w.before _ s = true := fun w h => hts w (List.mem_cons_of_mem _ h)
  have hown : s.vm.findClass RX3 = some m.cls := findClass_of_methodNamed B.named
  have hlocks : meth.locks = false := B.notSynchronized
  have S : CallFix p m c cX3_goes 3 s _ lw_all RX3 := ⟨hx, hb, hml, hown, hts⟩
  have hS : va_S AD s.heap s.heap [] := va_S.rf
  have hE : Ext M M := Ext.rf
  have hl := lv_entry ([.ref a0, .int x1]) (n := 3) (Nat.le_of_ble_eq_true rfl)
  rw [lg_entry_eq]
  generalize (lg_sl ([.ref a0, .int x1]) ++ List.replicate (3 - (lg_sl ([.ref a0, .int x1])).length) Slot.unset).toArray = ls at hl ⊢
  have hl : lv_has ls 3 [(0, .ref a0), (1, .int x1)] := hl
  unfold w3_goes at hw
  refine lv_aload_n hx hb dX3_goes_0 rfl (lv_at hl 0 rfl) ?_
  have hk1 := hw.1
  have hw := hw.2
  refine co_getr S hK hH 3 0 400 (by decide) ⟨by decide, rfl, rfl, rfl⟩ (Or.inl q185) hk_a0 (by rw [hk1]; decide) dX3_goes_1 ?_
  refine lv_iload_n hx hb dX3_goes_4 rfl (lv_at hl 1 rfl) ?_
  have hin2 := hw.1
  have hw := hw.2
  have hk3 := hw.1
  have hw := hw.2
  refine co_aald S hK hH 5 25 ⟨by decide, rfl, rfl⟩ hk1 hin2 (by rw [hk3]; decide) dX3_goes_5 ?_
  refine lv_astore_n (lv' := [(2, .ref (mP M 25 (mP M 400 a0 0) x1.toNatClampNeg)), (0, .ref a0), (1, .int x1)]) hx hb dX3_goes_6 rfl hl (by decide) rfl (fun ls hl => ?_)
  refine lv_aload_n hx hb dX3_goes_7 rfl (lv_at hl 1 rfl) ?_
  have hk4 := hw.1
  have hw := hw.2
  refine co_getr S hK hH 3 0 400 (by decide) ⟨by decide, rfl, rfl, rfl⟩ (Or.inl q185) hk_a0 (by rw [hk4]; decide) dX3_goes_8 ?_
  refine lv_iload_n hx hb dX3_goes_11 rfl (lv_at hl 2 rfl) ?_
  refine lv_iconst (v := 1) hx hb dX3_goes_12 (by decide) ?_
  refine lv_iadd hx hb dX3_goes_13 ?_
  refine lv_aload_n hx hb dX3_goes_14 rfl (lv_at hl 1 rfl) ?_
  have hk5 := hw.1
  have hw := hw.2
  refine co_getr S hK hH 3 0 400 (by decide) ⟨by decide, rfl, rfl, rfl⟩ (Or.inl q185) hk_a0 (by rw [hk5]; decide) dX3_goes_15 ?_
  refine lv_iload_n hx hb dX3_goes_18 rfl (lv_at hl 2 rfl) ?_
  refine lv_aload_n hx hb dX3_goes_19 rfl (lv_at hl 1 rfl) ?_
  have hk6 := hw.1
  have hw := hw.2
  refine co_getr S hK hH 3 0 400 (by decide) ⟨by decide, rfl, rfl, rfl⟩ (Or.inl q185) hk_a0 (by rw [hk6]; decide) dX3_goes_20 ?_
  refine co_alen (v := 32) S hK hH 5 25 ⟨by decide, rfl⟩ hk6 (by decide) dX3_goes_23 ?_
  refine lv_iload_n hx hb dX3_goes_24 rfl (lv_at hl 2 rfl) ?_
  refine lv_isub hx hb dX3_goes_25 ?_
  refine lv_iconst (v := 1) hx hb dX3_goes_26 (by decide) ?_
  refine lv_isub hx hb dX3_goes_27 ?_
  have hg7 := hw.1
  have hw := hw.2
  have hg8 := hw.1
  have hw := hw.2
  have hg9 := hw.1
  have hw := hw.2
  have hg10 := hw.1
  have hw := hw.2
  have hg11 := hw.1
  have hw := hw.2
  have hg12 := hw.1
  have hw := hw.2
  refine co_copyr S hK hH hS hl.1 5 25 ⟨by decide, rfl, rfl⟩ hk4 hk5 q688 q252 q251 q63 hg7 hg8 hg9 hg10 hg11 (fun i h => Or.inr ⟨4, by decide, hg12 i h, rfl⟩) (fun _ => rfl) (Nat.le_of_ble_eq_true rfl) (by decide) dX3_goes_28 (fun H locs hH hS => ?_)
  obtain ⟨M14, eM14⟩ : ∃ y : Mm, y = cP M 25 (mP M 400 a0 0) (mP M 400 a0 0) (x1 + 1).toNatClampNeg x1.toNatClampNeg (((32 : Int32) - x1) - 1).toNatClampNeg := ⟨_, rfl⟩
  have hw := hw M14 eM14
  rw [← eM14] at hH
  have hE15 : Ext M M14 := by rw [eM14]; exact Ext.cP
  have hk16 := hE15.k hk_a0 (by decide)
  have hk17 := hE15.k hk3 (by decide)
  have hE := hE.tr hE15
  refine lv_aload_n hx hb dX3_goes_31 rfl (lv_at hl 1 rfl) ?_
  have hk18 := hw.1
  have hw := hw.2
  refine co_getr S hK hH 3 0 400 (by decide) ⟨by decide, rfl, rfl, rfl⟩ (Or.inl q185) hk16 (by rw [hk18]; decide) dX3_goes_32 ?_
  refine lv_aload_n hx hb dX3_goes_35 rfl (lv_at hl 1 rfl) ?_
  have hk19 := hw.1
  have hw := hw.2
  refine co_getr S hK hH 3 0 400 (by decide) ⟨by decide, rfl, rfl, rfl⟩ (Or.inl q185) hk16 (by rw [hk19]; decide) dX3_goes_36 ?_
  refine co_alen (v := 32) S hK hH 5 25 ⟨by decide, rfl⟩ hk19 (by decide) dX3_goes_39 ?_
  refine lv_iconst (v := 1) hx hb dX3_goes_40 (by decide) ?_
  refine lv_isub hx hb dX3_goes_41 ?_
  refine lv_aload_n hx hb dX3_goes_42 rfl (lv_at hl 0 rfl) ?_
  have hin20 := hw.1
  have hw := hw.2
  refine co_aast S hK hH hS 5 25 ⟨by decide, rfl, rfl⟩ hk18 (Or.inr ⟨4, by decide, hk17, rfl⟩) hin20 dX3_goes_43 (fun H locs hH hS => ?_)
  obtain ⟨M21, eM21⟩ : ∃ y : Mm, y = sP M14 25 (mP M14 400 a0 0) ((32 : Int32) - 1).toNatClampNeg (mP M 25 (mP M 400 a0 0) x1.toNatClampNeg) := ⟨_, rfl⟩
  have hw := hw M21 eM21
  rw [← eM21] at hH
  have hE22 : Ext M14 M21 := by rw [eM21]; exact Ext.sP
  have hk23 := hE22.k hk16 (by decide)
  have hk24 := hE22.k hk17 (by decide)
  have hE := hE.tr hE22
  refine lv_aload_n hx hb dX3_goes_44 rfl (lv_at hl 1 rfl) ?_
  refine lv_dup hx hb dX3_goes_45 rfl ?_
  refine co_geti S hK hH 3 1 401 (by decide) ⟨by decide, rfl, rfl, rfl⟩ (Or.inl q187) hk23 dX3_goes_46 ?_
  refine lv_iconst (v := 1) hx hb dX3_goes_49 (by decide) ?_
  refine lv_isub hx hb dX3_goes_50 ?_
  refine co_puti S hK hH hS 3 1 401 (by decide) ⟨by decide, rfl, rfl, rfl, rfl⟩ (Or.inl q187) hk23 ⟨rfl, rfl⟩ dX3_goes_51 (fun H locs hH hS => ?_)
  obtain ⟨M25, eM25⟩ : ∃ y : Mm, y = sI M21 401 a0 0 ((mI M21 401 a0 0) - 1) := ⟨_, rfl⟩
  have hw := hw M25 eM25
  rw [← eM25] at hH
  have hE26 : Ext M21 M25 := by rw [eM25]; exact Ext.sI
  have hk27 := hE26.k hk23 (by decide)
  have hk28 := hE26.k hk24 (by decide)
  have hE := hE.tr hE26
  exact co_vret S hr hlocks hH hE hS hw dX3_goes_54
/-! FarTypewriter$Shelf.givesUp(I)V -/
abbrev rm3_givesUp : Room := { frames := 2, cells := 0, slots := 0, locals := 222 }
def b3_givesUp_0 (post : Mm → Prop)  (kb : Mm → Nat → Int32 → Prop) (M : Mm) (a0 : Nat) (x1 : Int32) : Prop :=
  ((mI M 401 a0 0) ≤ 1 → post M) ∧ (¬ (mI M 401 a0 0) ≤ 1 → mK M (mP M 400 a0 0) = 25 ∧ (vp_in 0 32 ∧ (mK M (mP M 25 (mP M 400 a0 0) (0 : Int32).toNatClampNeg) = 5 ∧ ((x1 ≤ (mI M 501 (mP M 25 (mP M 400 a0 0) (0 : Int32).toNatClampNeg) 0) → post M) ∧ (¬ x1 ≤ (mI M 501 (mP M 25 (mP M 400 a0 0) (0 : Int32).toNatClampNeg) 0) → w3_goes (fun (M16 : Mm) => kb M16 a0 x1) M a0 0)))))
def w3_givesUp_0 (post : Mm → Prop)  : Nat → Mm → Nat → Int32 → Prop
  | 0 => fun _ _ _ => False
  | n + 1 => b3_givesUp_0 post  (w3_givesUp_0 post  n)
set_option maxHeartbeats 4000000 in
set_option maxRecDepth 100000 in
theorem r3_givesUp_0 {p : Program} {l : Launch} {e : Env} {s : State} {m : MethodId} {args : Array Value} {below : List Frame} {meth : Method} {c : Code} {g : CG} {AD : Nat → Prop} {M0 : Mm} (S : CallFix p m c cX3_givesUp 2 s args lw_all RX3) (hr : meth.sig.returnType = none) (hlocks : meth.locks = false) (hK : KC g s) (hA : ∀ q, s.heap.size ≤ q → AD q) {post : Mm → Prop}  : ∀ n : Nat, ∀ (M : Mm) (a0 : Nat) (x1 : Int32), w3_givesUp_0 post  n M a0 x1 → Ext M0 M → mK M a0 = 4 → ∀ (H : Heap) (locs : List Loc), HC g AD M H → va_S AD s.heap H locs → ∀ (ls : Array Slot), lv_has ls 2 [(0, .ref a0), (1, .int x1)] → W p l e rm3_givesUp s m args below meth c H locs 0 0 (MQ below (CQv g AD M0 post) args s 0 0 AD) (F0 m 0 ls []) := by
  have hx := S.1
  have hb := S.2.1
  have hown := S.2.2.2.1
  have hts := S.2.2.2.2
  intro n
  induction n with
  | zero =>
    intro M a0 x1 hw
    exact hw.elim
  | succ n hkb =>
    intro M a0 x1 hw hE hk_a0 H locs hH hS ls hl
    unfold w3_givesUp_0 b3_givesUp_0 at hw
    refine lv_aload_n hx hb dX3_givesUp_0 rfl (lv_at hl 0 rfl) ?_
    refine co_geti S hK hH 3 1 401 (by decide) ⟨by decide, rfl, rfl, rfl⟩ (Or.inl q187) hk_a0 dX3_givesUp_1 ?_
    refine lv_iconst (v := 1) hx hb dX3_givesUp_4 (by decide) ?_
    refine lv_icmp_le (tgt := 29) hx hb dX3_givesUp_5 (by decide) (fun c11 => ?_) (fun c11 => ?_)
    · have hw := hw.1 c11
      exact co_vret S hr hlocks hH hE hS hw dX3_givesUp_29
    · have hw := hw.2 c11
      refine lv_aload_n hx hb dX3_givesUp_8 rfl (lv_at hl 0 rfl) ?_
      have hk12 := hw.1
      have hw := hw.2
      refine co_getr S hK hH 3 0 400 (by decide) ⟨by decide, rfl, rfl, rfl⟩ (Or.inl q185) hk_a0 (by rw [hk12]; decide) dX3_givesUp_9 ?_
      refine lv_iconst (v := 0) hx hb dX3_givesUp_12 (by decide) ?_
      have hin13 := hw.1
      have hw := hw.2
      have hk14 := hw.1
      have hw := hw.2
      refine co_aald S hK hH 5 25 ⟨by decide, rfl, rfl⟩ hk12 hin13 (by rw [hk14]; decide) dX3_givesUp_13 ?_
      refine co_geti S hK hH 4 1 501 (by decide) ⟨by decide, rfl, rfl, rfl⟩ (Or.inr ⟨_, q174⟩) hk14 dX3_givesUp_14 ?_
      refine lv_iload_n hx hb dX3_givesUp_17 rfl (lv_at hl 1 rfl) ?_
      refine lv_icmp_ge (tgt := 29) hx hb dX3_givesUp_18 (by decide) (fun c15 => ?_) (fun c15 => ?_)
      · have hw := hw.1 c15
        exact co_vret S hr hlocks hH hE hS hw dX3_givesUp_29
      · have hw := hw.2 c15
        refine lv_aload_n hx hb dX3_givesUp_21 rfl (lv_at hl 0 rfl) ?_
        refine lv_iconst (v := 0) hx hb dX3_givesUp_22 (by decide) ?_
        refine co_callv (va_runV (As := [.int 0]) (rest := []) S (m3_goes l g AD M a0 0 _ hk_a0 hw) (cwV 1 hts (lw_V q684 q686 qs11 q57 q687) rfl rfl rfl (by decide +kernel) ⟨Nat.le_of_ble_eq_true rfl, Nat.le_of_ble_eq_true rfl⟩) ⟨co_blind, co_recv hK hH (c := 3) (by decide) hk_a0, co_pre hK hH hA hS⟩ rfl rfl hl.1 rfl (lv_room (Nat.le_of_ble_eq_true rfl)) dX3_givesUp_23 ⟨Nat.le_refl _, Nat.le_refl _⟩) hS (fun M16 H locs hw hH hE18 hS => ?_)
        have hk20 := hE18.k hk_a0 (by decide)
        have hE := hE.tr hE18
        refine lv_goto (tgt := 0) hx hb dX3_givesUp_26 (by decide) ?_
        exact hkb _ _ _ hw hE hk20 _ _ hH hS _ (lv_sub hl [0, 1] rfl)
def w3_givesUp (post : Mm → Prop) (M : Mm) (a0 : Nat) (x1 : Int32) : Prop :=
  ((mI M 401 a0 0) ≤ 1 → post M) ∧ (¬ (mI M 401 a0 0) ≤ 1 → mK M (mP M 400 a0 0) = 25 ∧ (vp_in 0 32 ∧ (mK M (mP M 25 (mP M 400 a0 0) (0 : Int32).toNatClampNeg) = 5 ∧ ((x1 ≤ (mI M 501 (mP M 25 (mP M 400 a0 0) (0 : Int32).toNatClampNeg) 0) → post M) ∧ (¬ x1 ≤ (mI M 501 (mP M 25 (mP M 400 a0 0) (0 : Int32).toNatClampNeg) 0) → w3_goes (fun (M6 : Mm) => ∃ n, w3_givesUp_0 post  n M6 a0 x1) M a0 0)))))
set_option maxHeartbeats 4000000 in
set_option maxRecDepth 100000 in
theorem m3_givesUp (l : Launch) (g : CG) (AD : Nat → Prop) (M : Mm) (a0 : Nat) (x1 : Int32) (post : Mm → Prop) (hk_a0 : mK M a0 = 4) (hw : w3_givesUp post M a0 x1) : Met l yX3_givesUp (ws_ yX3_givesUp cX3_givesUp 2 none) rm3_givesUp (CPc g AD M [.ref a0, .int x1]) (CQv g AD M post) 0 0 AD := by
  refine Met.ofW (cc := cX3_givesUp) (maxL := 2) (ret := none) (by decide) rfl ?_
  intro p e s m args below meth c s₁ B hml hv
  obtain ⟨rfl, hK, hH, hA⟩ := hv
  have hx := B.exec
  have hb := B.bytes
  have hr : meth.sig.returnType = none := B.returns
  have hts := atoms_spec (ws := ws_ yX3_givesUp cX3_givesUp 2 none) B.pre
  have hts : ∀ w ∈ lw_all, w.before _ s = true := fun w h => hts w (List.mem_cons_of_mem _ h)
  have hown : s.vm.findClass RX3 = some m.cls := findClass_of_methodNamed B.named
  have hlocks : meth.locks = false := B.notSynchronized
  have S : CallFix p m c cX3_givesUp 2 s _ lw_all RX3 := ⟨hx, hb, hml, hown, hts⟩
  have hS : va_S AD s.heap s.heap [] := va_S.rf
  have hE : Ext M M := Ext.rf
  have hl := lv_entry ([.ref a0, .int x1]) (n := 2) (Nat.le_of_ble_eq_true rfl)
  rw [lg_entry_eq]
  generalize (lg_sl ([.ref a0, .int x1]) ++ List.replicate (2 - (lg_sl ([.ref a0, .int x1])).length) Slot.unset).toArray = ls at hl ⊢
  have hl : lv_has ls 2 [(0, .ref a0), (1, .int x1)] := hl
  unfold w3_givesUp at hw
  refine lv_aload_n hx hb dX3_givesUp_0 rfl (lv_at hl 0 rfl) ?_
  refine co_geti S hK hH 3 1 401 (by decide) ⟨by decide, rfl, rfl, rfl⟩ (Or.inl q187) hk_a0 dX3_givesUp_1 ?_
  refine lv_iconst (v := 1) hx hb dX3_givesUp_4 (by decide) ?_
  refine lv_icmp_le (tgt := 29) hx hb dX3_givesUp_5 (by decide) (fun c1 => ?_) (fun c1 => ?_)
  · have hw := hw.1 c1
    exact co_vret S hr hlocks hH hE hS hw dX3_givesUp_29
  · have hw := hw.2 c1
    refine lv_aload_n hx hb dX3_givesUp_8 rfl (lv_at hl 0 rfl) ?_
    have hk2 := hw.1
    have hw := hw.2
    refine co_getr S hK hH 3 0 400 (by decide) ⟨by decide, rfl, rfl, rfl⟩ (Or.inl q185) hk_a0 (by rw [hk2]; decide) dX3_givesUp_9 ?_
    refine lv_iconst (v := 0) hx hb dX3_givesUp_12 (by decide) ?_
    have hin3 := hw.1
    have hw := hw.2
    have hk4 := hw.1
    have hw := hw.2
    refine co_aald S hK hH 5 25 ⟨by decide, rfl, rfl⟩ hk2 hin3 (by rw [hk4]; decide) dX3_givesUp_13 ?_
    refine co_geti S hK hH 4 1 501 (by decide) ⟨by decide, rfl, rfl, rfl⟩ (Or.inr ⟨_, q174⟩) hk4 dX3_givesUp_14 ?_
    refine lv_iload_n hx hb dX3_givesUp_17 rfl (lv_at hl 1 rfl) ?_
    refine lv_icmp_ge (tgt := 29) hx hb dX3_givesUp_18 (by decide) (fun c5 => ?_) (fun c5 => ?_)
    · have hw := hw.1 c5
      exact co_vret S hr hlocks hH hE hS hw dX3_givesUp_29
    · have hw := hw.2 c5
      refine lv_aload_n hx hb dX3_givesUp_21 rfl (lv_at hl 0 rfl) ?_
      refine lv_iconst (v := 0) hx hb dX3_givesUp_22 (by decide) ?_
      refine co_callv (va_runV (As := [.int 0]) (rest := []) S (m3_goes l g AD M a0 0 _ hk_a0 hw) (cwV 1 hts (lw_V q684 q686 qs11 q57 q687) rfl rfl rfl (by decide +kernel) ⟨Nat.le_of_ble_eq_true rfl, Nat.le_of_ble_eq_true rfl⟩) ⟨co_blind, co_recv hK hH (c := 3) (by decide) hk_a0, co_pre hK hH hA hS⟩ rfl rfl hl.1 rfl (lv_room (Nat.le_of_ble_eq_true rfl)) dX3_givesUp_23 ⟨Nat.le_refl _, Nat.le_refl _⟩) hS (fun M6 H locs hw hH hE8 hS => ?_)
      have hk10 := hE8.k hk_a0 (by decide)
      have hE := hE.tr hE8
      refine lv_goto (tgt := 0) hx hb dX3_givesUp_26 (by decide) ?_
      obtain ⟨n, hw⟩ := hw
      refine r3_givesUp_0 S hr hlocks hK hA  n _ _ _ hw hE hk10 _ _ hH hS _ (lv_sub hl [0, 1] rfl)
/-! FarTypewriter$Screen.<init>()V -/
abbrev rm5_init : Room := { frames := 2, cells := 18, slots := 400, locals := 46 }
def b5_init_30 (post : Mm → Prop)  (kb : Mm → Nat → Int32 → Prop) (M : Mm) (a0 : Nat) (x1 : Int32) : Prop :=
  (8 ≤ x1 → post M) ∧ (¬ 8 ≤ x1 → w5_wipe (fun (M16 : Mm) => kb M16 a0 (x1 + 1)) M a0 x1)
def w5_init_30 (post : Mm → Prop)  : Nat → Mm → Nat → Int32 → Prop
  | 0 => fun _ _ _ => False
  | n + 1 => b5_init_30 post  (w5_init_30 post  n)
set_option maxHeartbeats 4000000 in
set_option maxRecDepth 100000 in
theorem r5_init_30 {p : Program} {l : Launch} {e : Env} {s : State} {m : MethodId} {args : Array Value} {below : List Frame} {meth : Method} {c : Code} {g : CG} {AD : Nat → Prop} {M0 : Mm} (S : CallFix p m c cX5_init 2 s args lw_all RX5) (hr : meth.sig.returnType = none) (hlocks : meth.locks = false) (hK : KC g s) (hA : ∀ q, s.heap.size ≤ q → AD q) (hin : meth.name = "<init>") {post : Mm → Prop}  : ∀ n : Nat, ∀ (M : Mm) (a0 : Nat) (x1 : Int32), w5_init_30 post  n M a0 x1 → Ext M0 M → mK M a0 = 6 → ∀ (H : Heap) (locs : List Loc), HC g AD M H → va_S AD s.heap H locs → ∀ (ls : Array Slot), lv_has ls 2 [(0, .ref a0), (1, .int x1)] → W p l e rm5_init s m args below meth c H locs 18 400 (MQ below (CQv g AD M0 post) args s 18 400 AD) (F0 m 30 ls []) := by
  have hx := S.1
  have hb := S.2.1
  have hown := S.2.2.2.1
  have hts := S.2.2.2.2
  intro n
  induction n with
  | zero =>
    intro M a0 x1 hw
    exact hw.elim
  | succ n hkb =>
    intro M a0 x1 hw hE hk_a0 H locs hH hS ls hl
    unfold w5_init_30 b5_init_30 at hw
    refine lv_iload_n hx hb dX5_init_30 rfl (lv_at hl 1 rfl) ?_
    refine lv_bipush (v := 8) hx hb dX5_init_31 (by decide) ?_
    refine lv_icmp_ge (tgt := 47) hx hb dX5_init_33 (by decide) (fun c15 => ?_) (fun c15 => ?_)
    · have hw := hw.1 c15
      exact co_vret S hr hlocks hH hE hS hw dX5_init_47
    · have hw := hw.2 c15
      refine lv_aload_n hx hb dX5_init_36 rfl (lv_at hl 0 rfl) ?_
      refine lv_iload_n hx hb dX5_init_37 rfl (lv_at hl 1 rfl) ?_
      refine co_callv (va_runV (As := [.int x1]) (rest := []) S (m5_wipe l g AD M a0 x1 _ hk_a0 hw) (cwV 1 hts (lw_V q140 q141 q142 q59 q143) rfl rfl rfl (by decide +kernel) ⟨Nat.le_of_ble_eq_true rfl, Nat.le_of_ble_eq_true rfl⟩) ⟨co_blind, co_recv hK hH (c := 5) (by decide) hk_a0, co_pre hK hH hA hS⟩ rfl rfl hl.1 rfl (lv_room (Nat.le_of_ble_eq_true rfl)) dX5_init_38 ⟨(Nat.le_of_ble_eq_true rfl), (Nat.le_of_ble_eq_true rfl)⟩) hS (fun M16 H locs hw hH hE18 hS => ?_)
      have hk20 := hE18.k hk_a0 (by decide)
      have hE := hE.tr hE18
      refine lv_iinc (v := x1 + 1) (lv' := [(1, .int (x1 + 1)), (0, .ref a0)]) hx hb dX5_init_41 hl (k := 1) rfl rfl (by decide) rfl (fun ls hl => ?_)
      refine lv_goto (tgt := 30) hx hb dX5_init_44 (by decide) ?_
      exact hkb _ _ _ hw hE hk20 _ _ hH hS _ (lv_sub hl [1, 0] rfl)
def w5_init (post : Mm → Prop) (M : Mm) (a0 : Nat) : Prop :=
  ∀ M2 : Mm, M2 = sB M → (∀ M5 : Mm, M5 = sP M2 600 a0 0 (mZ M) → (∀ M9 : Mm, M9 = sB M5 → (∀ M12 : Mm, M12 = sP M9 601 a0 0 (mZ M5) → (∃ n, w5_init_30 post  n M12 a0 0))))
set_option maxHeartbeats 4000000 in
set_option maxRecDepth 100000 in
theorem m5_init (l : Launch) (g : CG) (AD : Nat → Prop) (M : Mm) (a0 : Nat) (post : Mm → Prop) (hk_a0 : mK M a0 = 6) (hw : w5_init post M a0) : Met l yX5_init (ws_ yX5_init cX5_init 2 none) rm5_init (CPc g AD M [.ref a0]) (CQv g AD M post) 18 400 AD := by
  refine Met.ofW (cc := cX5_init) (maxL := 2) (ret := none) (by decide) rfl ?_
  intro p e s m args below meth c s₁ B hml hv
  obtain ⟨rfl, hK, hH, hA⟩ := hv
  have hx := B.exec
  have hb := B.bytes
  have hr : meth.sig.returnType = none := B.returns
  have hts := atoms_spec (ws := ws_ yX5_init cX5_init 2 none) B.pre
  have hts : ∀ w ∈ lw_all, w.before _ s = true := fun w h => hts w (List.mem_cons_of_mem _ h)
  have hown : s.vm.findClass RX5 = some m.cls := findClass_of_methodNamed B.named
  have hlocks : meth.locks = false := B.notSynchronized
  have hin : meth.name = "<init>" := (name_of_methodNamed B.named B.method).1
  have S : CallFix p m c cX5_init 2 s _ lw_all RX5 := ⟨hx, hb, hml, hown, hts⟩
  have hS : va_S AD s.heap s.heap [] := va_S.rf
  have hE : Ext M M := Ext.rf
  have hl := lv_entry ([.ref a0]) (n := 2) (Nat.le_of_ble_eq_true rfl)
  rw [lg_entry_eq]
  generalize (lg_sl ([.ref a0]) ++ List.replicate (2 - (lg_sl ([.ref a0])).length) Slot.unset).toArray = ls at hl ⊢
  have hl : lv_has ls 2 [(0, .ref a0)] := hl
  unfold w5_init at hw
  refine lv_aload_n hx hb dX5_init_0 rfl (lv_at hl 0 rfl) ?_
  refine W.objInit hx hb hown (hts _ q137) (hts _ q81) (hts _ q82) rfl (by rw [S.2.2.1]; exact hl.1) rfl dX5_init_1 (Nat.le_of_ble_eq_true rfl) (Nat.le_of_ble_eq_true rfl) ?_
  refine W.eq (g2 := F0 m 4 ls []) rfl ?_
  refine lv_aload_n hx hb dX5_init_4 rfl (lv_at hl 0 rfl) ?_
  refine lv_bipush (v := 8) hx hb dX5_init_5 (by decide) ?_
  refine lv_bipush (v := 24) hx hb dX5_init_7 (by decide) ?_
  have hE1 := Ext.newB hH
  refine co_newB S hK hH hS hA q138 (Nat.le_of_ble_eq_true rfl) (Nat.le_of_ble_eq_true rfl) dX5_init_9 (fun H locs hH hS => ?_)
  obtain ⟨M2, eM2⟩ : ∃ y : Mm, y = sB M := ⟨_, rfl⟩
  have hw := hw M2 eM2
  rw [← eM2] at hH hE1
  have hk3 := hE1.k hk_a0 (by decide)
  have hE := hE.tr hE1
  have hk4 : mK M2 (mZ M) = 21 := by rw [eM2]; exact mK_newB M
  refine co_putF S hin hK hH hS 5 0 600 (by decide) ⟨by decide, rfl, rfl, rfl, rfl⟩ rfl q148 hk3 (by rw [hk4]; decide) ⟨rfl, rfl⟩ dX5_init_13 (fun H locs hH hS => ?_)
  obtain ⟨M5, eM5⟩ : ∃ y : Mm, y = sP M2 600 a0 0 (mZ M) := ⟨_, rfl⟩
  have hw := hw M5 eM5
  rw [← eM5] at hH
  have hE6 : Ext M2 M5 := by rw [eM5]; exact Ext.sP
  have hk7 := hE6.k hk3 (by decide)
  have hE := hE.tr hE6
  refine lv_aload_n hx hb dX5_init_16 rfl (lv_at hl 0 rfl) ?_
  refine lv_bipush (v := 8) hx hb dX5_init_17 (by decide) ?_
  refine lv_bipush (v := 24) hx hb dX5_init_19 (by decide) ?_
  have hE8 := Ext.newB hH
  refine co_newB S hK hH hS hA q138 (Nat.le_of_ble_eq_true rfl) (Nat.le_of_ble_eq_true rfl) dX5_init_21 (fun H locs hH hS => ?_)
  obtain ⟨M9, eM9⟩ : ∃ y : Mm, y = sB M5 := ⟨_, rfl⟩
  have hw := hw M9 eM9
  rw [← eM9] at hH hE8
  have hk10 := hE8.k hk7 (by decide)
  have hE := hE.tr hE8
  have hk11 : mK M9 (mZ M5) = 21 := by rw [eM9]; exact mK_newB M5
  refine co_putF S hin hK hH hS 5 1 601 (by decide) ⟨by decide, rfl, rfl, rfl, rfl⟩ rfl q151 hk10 (by rw [hk11]; decide) ⟨rfl, rfl⟩ dX5_init_25 (fun H locs hH hS => ?_)
  obtain ⟨M12, eM12⟩ : ∃ y : Mm, y = sP M9 601 a0 0 (mZ M5) := ⟨_, rfl⟩
  have hw := hw M12 eM12
  rw [← eM12] at hH
  have hE13 : Ext M9 M12 := by rw [eM12]; exact Ext.sP
  have hk14 := hE13.k hk10 (by decide)
  have hE := hE.tr hE13
  refine lv_iconst (v := 0) hx hb dX5_init_28 (by decide) ?_
  refine lv_istore_n (lv' := [(1, .int 0), (0, .ref a0)]) hx hb dX5_init_29 rfl hl (by decide) rfl (fun ls hl => ?_)
  obtain ⟨n, hw⟩ := hw
  refine r5_init_30 S hr hlocks hK hA hin  n _ _ _ hw hE hk14 _ _ hH hS _ (lv_sub hl [1, 0] rfl)
/-! FarTypewriter$State.<init>()V -/
abbrev rm4_init : Room := { frames := 3, cells := 19, slots := 404, locals := 67 }
def w4_init (post : Mm → Prop) (M : Mm) (a0 : Nat) : Prop :=
  ∀ M2 : Mm, M2 = sN M 6 → (w5_init (fun (M5 : Mm) => ∀ M12 : Mm, M12 = sP M5 500 a0 0 (mZ M) → (post M12)) M2 (mZ M))
set_option maxHeartbeats 4000000 in
set_option maxRecDepth 100000 in
theorem m4_init (l : Launch) (g : CG) (AD : Nat → Prop) (M : Mm) (a0 : Nat) (post : Mm → Prop) (hk_a0 : mK M a0 = 5) (hw : w4_init post M a0) : Met l yX4_init (ws_ yX4_init cX4_init 1 none) rm4_init (CPc g AD M [.ref a0]) (CQv g AD M post) 19 404 AD := by
  refine Met.ofW (cc := cX4_init) (maxL := 1) (ret := none) (by decide) rfl ?_
  intro p e s m args below meth c s₁ B hml hv
  obtain ⟨rfl, hK, hH, hA⟩ := hv
  have hx := B.exec
  have hb := B.bytes
  have hr : meth.sig.returnType = none := B.returns
  have hts := atoms_spec (ws := ws_ yX4_init cX4_init 1 none) B.pre
  have hts : ∀ w ∈ lw_all, w.before _ s = true := fun w h => hts w (List.mem_cons_of_mem _ h)
  have hown : s.vm.findClass RX4 = some m.cls := findClass_of_methodNamed B.named
  have hlocks : meth.locks = false := B.notSynchronized
  have hin : meth.name = "<init>" := (name_of_methodNamed B.named B.method).1
  have S : CallFix p m c cX4_init 1 s _ lw_all RX4 := ⟨hx, hb, hml, hown, hts⟩
  have hS : va_S AD s.heap s.heap [] := va_S.rf
  have hE : Ext M M := Ext.rf
  have hl := lv_entry ([.ref a0]) (n := 1) (Nat.le_of_ble_eq_true rfl)
  rw [lg_entry_eq]
  generalize (lg_sl ([.ref a0]) ++ List.replicate (1 - (lg_sl ([.ref a0])).length) Slot.unset).toArray = ls at hl ⊢
  have hl : lv_has ls 1 [(0, .ref a0)] := hl
  unfold w4_init at hw
  refine lv_aload_n hx hb dX4_init_0 rfl (lv_at hl 0 rfl) ?_
  refine W.objInit hx hb hown (hts _ q131) (hts _ q81) (hts _ q82) rfl (by rw [S.2.2.1]; exact hl.1) rfl dX4_init_1 (Nat.le_of_ble_eq_true rfl) (Nat.le_of_ble_eq_true rfl) ?_
  refine W.eq (g2 := F0 m 4 ls []) rfl ?_
  refine lv_aload_n hx hb dX4_init_4 rfl (lv_at hl 0 rfl) ?_
  have hE1 := Ext.new hH 6
  refine co_new S hK hH hS hA 5 6 (by decide) rfl q132 q133 q59 (by decide) (Nat.le_of_ble_eq_true rfl) (Nat.le_of_ble_eq_true rfl) dX4_init_5 (fun H hH hS => ?_)
  obtain ⟨M2, eM2⟩ : ∃ y : Mm, y = sN M 6 := ⟨_, rfl⟩
  have hw := hw M2 eM2
  rw [← eM2] at hH hE1
  have hk3 := hE1.k hk_a0 (by decide)
  have hE := hE.tr hE1
  have hk4 : mK M2 (mZ M) = 6 := by rw [eM2]; exact mK_new M 6
  refine lv_dup hx hb dX4_init_8 rfl ?_
  refine co_callv (va_runI (As := []) (rest := [.ref (mZ M), .ref a0]) S (m5_init l g AD M2 (mZ M) _ hk4 hw) (cwI 0 hts (lw_meth q136) rfl rfl rfl (hts _ q59) (hts _ q134) (hts _ q135) rfl (by decide +kernel) ⟨Nat.le_of_ble_eq_true rfl, Nat.le_of_ble_eq_true rfl⟩) ⟨co_blind, co_pre hK hH hA hS⟩ rfl rfl hl.1 rfl (lv_room (Nat.le_of_ble_eq_true rfl)) dX4_init_9 ⟨(Nat.le_of_ble_eq_true rfl), (Nat.le_of_ble_eq_true rfl)⟩) hS (fun M5 H locs hw hH hE7 hS => ?_)
  have hk9 := hE7.k hk3 (by decide)
  have hk10 := hE7.k hk4 (by decide)
  have hk11 := hE7.k hk3 (by decide)
  have hE := hE.tr hE7
  refine co_putF S hin hK hH hS 4 0 500 (by decide) ⟨by decide, rfl, rfl, rfl, rfl⟩ rfl q171 hk11 (by rw [hk10]; decide) ⟨rfl, rfl⟩ dX4_init_12 (fun H locs hH hS => ?_)
  obtain ⟨M12, eM12⟩ : ∃ y : Mm, y = sP M5 500 a0 0 (mZ M) := ⟨_, rfl⟩
  have hw := hw M12 eM12
  rw [← eM12] at hH
  have hE13 : Ext M5 M12 := by rw [eM12]; exact Ext.sP
  have hk14 := hE13.k hk9 (by decide)
  have hE := hE.tr hE13
  exact co_vret S hr hlocks hH hE hS hw dX4_init_15
/-! FarTypewriter$Shelf.<init>()V -/
abbrev rm3_init : Room := { frames := 4, cells := 661, slots := 13463, locals := 87 }
def b3_init_15 (post : Mm → Prop)  (kb : Mm → Nat → Int32 → Prop) (M : Mm) (a0 : Nat) (x1 : Int32) : Prop :=
  mK M (mP M 400 a0 0) = 25 ∧ ((32 ≤ x1 → post M) ∧ (¬ 32 ≤ x1 → mK M (mP M 400 a0 0) = 25 ∧ (∀ M12 : Mm, M12 = sN M 5 → (w4_init (fun (M16 : Mm) => vp_in x1 32 ∧ (∀ M24 : Mm, M24 = sP M16 25 (mP M 400 a0 0) x1.toNatClampNeg (mZ M) → (kb M24 a0 (x1 + 1)))) M12 (mZ M)))))
def w3_init_15 (post : Mm → Prop)  : Nat → Mm → Nat → Int32 → Prop
  | 0 => fun _ _ _ => False
  | n + 1 => b3_init_15 post  (w3_init_15 post  n)
set_option maxHeartbeats 4000000 in
set_option maxRecDepth 100000 in
theorem r3_init_15 {p : Program} {l : Launch} {e : Env} {s : State} {m : MethodId} {args : Array Value} {below : List Frame} {meth : Method} {c : Code} {g : CG} {AD : Nat → Prop} {M0 : Mm} (S : CallFix p m c cX3_init 2 s args lw_all RX3) (hr : meth.sig.returnType = none) (hlocks : meth.locks = false) (hK : KC g s) (hA : ∀ q, s.heap.size ≤ q → AD q) (hin : meth.name = "<init>") {post : Mm → Prop}  : ∀ n cl sl : Nat, cl + n * 20 ≤ 661 → sl + n * 407 ≤ 13463 → ∀ (M : Mm) (a0 : Nat) (x1 : Int32), w3_init_15 post  n M a0 x1 → Ext M0 M → mK M a0 = 4 → ∀ (H : Heap) (locs : List Loc), HC g AD M H → va_S AD s.heap H locs → ∀ (ls : Array Slot), lv_has ls 2 [(0, .ref a0), (1, .int x1)] → W p l e rm3_init s m args below meth c H locs cl sl (MQ below (CQv g AD M0 post) args s 661 13463 AD) (F0 m 15 ls []) := by
  have hx := S.1
  have hb := S.2.1
  have hown := S.2.2.2.1
  have hts := S.2.2.2.2
  intro n
  induction n with
  | zero =>
    intro cl sl hcl hsl M a0 x1 hw
    exact hw.elim
  | succ n hkb =>
    intro cl sl hcl hsl M a0 x1 hw hE hk_a0 H locs hH hS ls hl
    unfold w3_init_15 b3_init_15 at hw
    refine lv_iload_n hx hb dX3_init_15 rfl (lv_at hl 1 rfl) ?_
    refine lv_aload_n hx hb dX3_init_16 rfl (lv_at hl 0 rfl) ?_
    have hk8 := hw.1
    have hw := hw.2
    refine co_getr S hK hH 3 0 400 (by decide) ⟨by decide, rfl, rfl, rfl⟩ (Or.inl q185) hk_a0 (by rw [hk8]; decide) dX3_init_17 ?_
    refine co_alen (v := 32) S hK hH 5 25 ⟨by decide, rfl⟩ hk8 (by decide) dX3_init_20 ?_
    refine lv_icmp_ge (tgt := 43) hx hb dX3_init_21 (by decide) (fun c9 => ?_) (fun c9 => ?_)
    · have hw := hw.1 c9
      refine W.widen (k := 661) (n := 13463) (by have q2 : ckN 2 = 2 := rfl; have q4 : ckN 4 = 3 := rfl; have q8 : ckN 8 = 7 := rfl; omega) (by have q2 : ckN 2 = 2 := rfl; have q4 : ckN 4 = 3 := rfl; have q8 : ckN 8 = 7 := rfl; omega) ?_
      exact co_vret S hr hlocks hH hE hS hw dX3_init_43
    · have hw := hw.2 c9
      refine lv_aload_n hx hb dX3_init_24 rfl (lv_at hl 0 rfl) ?_
      have hk10 := hw.1
      have hw := hw.2
      refine co_getr S hK hH 3 0 400 (by decide) ⟨by decide, rfl, rfl, rfl⟩ (Or.inl q185) hk_a0 (by rw [hk10]; decide) dX3_init_25 ?_
      refine lv_iload_n hx hb dX3_init_28 rfl (lv_at hl 1 rfl) ?_
      have hE11 := Ext.new hH 5
      refine co_new S hK hH hS hA 4 5 (by decide) rfl q125 q127 q58 (by decide) (by have q2 : ckN 2 = 2 := rfl; have q4 : ckN 4 = 3 := rfl; have q8 : ckN 8 = 7 := rfl; show _ ≤ 661; omega) (by have q2 : ckN 2 = 2 := rfl; have q4 : ckN 4 = 3 := rfl; have q8 : ckN 8 = 7 := rfl; show _ ≤ 13463; omega) dX3_init_29 (fun H hH hS => ?_)
      obtain ⟨M12, eM12⟩ : ∃ y : Mm, y = sN M 5 := ⟨_, rfl⟩
      have hw := hw M12 eM12
      rw [← eM12] at hH hE11
      have hk13 := hE11.k hk_a0 (by decide)
      have hk14 := hE11.k hk10 (by decide)
      have hE := hE.tr hE11
      have hk15 : mK M12 (mZ M) = 5 := by rw [eM12]; exact mK_new M 5
      refine lv_dup hx hb dX3_init_32 rfl ?_
      refine co_callv (va_runIN (As := []) (rest := [.ref (mZ M), .int x1, .ref (mP M 400 a0 0)]) S (m4_init l g AD M12 (mZ M) _ hk15 hw) ⟨va_cnB 0 hts (lw_meth q130) rfl rfl rfl (hK.2.2.2.1 _ q128 rfl) (hts _ q58) (by decide +kernel) ⟨Nat.le_of_ble_eq_true rfl, Nat.le_of_ble_eq_true rfl⟩, rfl, hts _ q129⟩ ⟨co_blind, co_pre hK hH hA hS⟩ rfl rfl hl.1 rfl (lv_room (Nat.le_of_ble_eq_true rfl)) dX3_init_33 ⟨(by have q2 : ckN 2 = 2 := rfl; have q4 : ckN 4 = 3 := rfl; have q8 : ckN 8 = 7 := rfl; show _ ≤ 661; omega), (by have q2 : ckN 2 = 2 := rfl; have q4 : ckN 4 = 3 := rfl; have q8 : ckN 8 = 7 := rfl; show _ ≤ 13463; omega)⟩) hS (fun M16 H locs hw hH hE18 hS => ?_)
      have hk20 := hE18.k hk13 (by decide)
      have hk21 := hE18.k hk15 (by decide)
      have hk22 := hE18.k hk14 (by decide)
      have hE := hE.tr hE18
      have hin23 := hw.1
      have hw := hw.2
      refine co_aast S hK hH hS 5 25 ⟨by decide, rfl, rfl⟩ hk22 (Or.inr ⟨4, by decide, hk21, rfl⟩) hin23 dX3_init_36 (fun H locs hH hS => ?_)
      obtain ⟨M24, eM24⟩ : ∃ y : Mm, y = sP M16 25 (mP M 400 a0 0) x1.toNatClampNeg (mZ M) := ⟨_, rfl⟩
      have hw := hw M24 eM24
      rw [← eM24] at hH
      have hE25 : Ext M16 M24 := by rw [eM24]; exact Ext.sP
      have hk26 := hE25.k hk20 (by decide)
      have hE := hE.tr hE25
      refine lv_iinc (v := x1 + 1) (lv' := [(1, .int (x1 + 1)), (0, .ref a0)]) hx hb dX3_init_37 hl (k := 1) rfl rfl (by decide) rfl (fun ls hl => ?_)
      refine lv_goto (tgt := 15) hx hb dX3_init_40 (by decide) ?_
      exact hkb _ _ (by have q2 : ckN 2 = 2 := rfl; have q4 : ckN 4 = 3 := rfl; have q8 : ckN 8 = 7 := rfl; omega) (by have q2 : ckN 2 = 2 := rfl; have q4 : ckN 4 = 3 := rfl; have q8 : ckN 8 = 7 := rfl; omega) _ _ _ hw hE hk26 _ _ hH hS _ (lv_sub hl [1, 0] rfl)
def w3_init (post : Mm → Prop) (M : Mm) (a0 : Nat) : Prop :=
  ∀ M2 : Mm, M2 = sN M 25 → (∀ M5 : Mm, M5 = sP M2 400 a0 0 (mZ M) → (w3_init_15 post  33 M5 a0 0))
set_option maxHeartbeats 4000000 in
set_option maxRecDepth 100000 in
theorem m3_init (l : Launch) (g : CG) (AD : Nat → Prop) (M : Mm) (a0 : Nat) (post : Mm → Prop) (hk_a0 : mK M a0 = 4) (hw : w3_init post M a0) : Met l yX3_init (ws_ yX3_init cX3_init 2 none) rm3_init (CPc g AD M [.ref a0]) (CQv g AD M post) 661 13463 AD := by
  refine Met.ofW (cc := cX3_init) (maxL := 2) (ret := none) (by decide) rfl ?_
  intro p e s m args below meth c s₁ B hml hv
  obtain ⟨rfl, hK, hH, hA⟩ := hv
  have hx := B.exec
  have hb := B.bytes
  have hr : meth.sig.returnType = none := B.returns
  have hts := atoms_spec (ws := ws_ yX3_init cX3_init 2 none) B.pre
  have hts : ∀ w ∈ lw_all, w.before _ s = true := fun w h => hts w (List.mem_cons_of_mem _ h)
  have hown : s.vm.findClass RX3 = some m.cls := findClass_of_methodNamed B.named
  have hlocks : meth.locks = false := B.notSynchronized
  have hin : meth.name = "<init>" := (name_of_methodNamed B.named B.method).1
  have S : CallFix p m c cX3_init 2 s _ lw_all RX3 := ⟨hx, hb, hml, hown, hts⟩
  have hS : va_S AD s.heap s.heap [] := va_S.rf
  have hE : Ext M M := Ext.rf
  have hl := lv_entry ([.ref a0]) (n := 2) (Nat.le_of_ble_eq_true rfl)
  rw [lg_entry_eq]
  generalize (lg_sl ([.ref a0]) ++ List.replicate (2 - (lg_sl ([.ref a0])).length) Slot.unset).toArray = ls at hl ⊢
  have hl : lv_has ls 2 [(0, .ref a0)] := hl
  unfold w3_init at hw
  refine lv_aload_n hx hb dX3_init_0 rfl (lv_at hl 0 rfl) ?_
  refine W.objInit hx hb hown (hts _ q124) (hts _ q81) (hts _ q82) rfl (by rw [S.2.2.1]; exact hl.1) rfl dX3_init_1 (Nat.le_of_ble_eq_true rfl) (Nat.le_of_ble_eq_true rfl) ?_
  refine W.eq (g2 := F0 m 4 ls []) rfl ?_
  refine lv_aload_n hx hb dX3_init_4 rfl (lv_at hl 0 rfl) ?_
  refine lv_bipush (v := 32) hx hb dX3_init_5 (by decide) ?_
  have hE1 := Ext.new hH 25
  refine co_newq S hK hH hS hA 5 25 ⟨by decide, rfl, rfl⟩ q125 hK.2.2.2.2.2.2.1 (n := 32) ⟨by decide, by decide⟩ (by decide) (Nat.le_of_ble_eq_true rfl) (Nat.le_of_ble_eq_true rfl) dX3_init_7 (fun H hH hS => ?_)
  obtain ⟨M2, eM2⟩ : ∃ y : Mm, y = sN M 25 := ⟨_, rfl⟩
  have hw := hw M2 eM2
  rw [← eM2] at hH hE1
  have hk3 := hE1.k hk_a0 (by decide)
  have hE := hE.tr hE1
  have hk4 : mK M2 (mZ M) = 25 := by rw [eM2]; exact mK_new M 25
  refine co_putF S hin hK hH hS 3 0 400 (by decide) ⟨by decide, rfl, rfl, rfl, rfl⟩ rfl q185 hk3 (by rw [hk4]; decide) ⟨rfl, rfl⟩ dX3_init_10 (fun H locs hH hS => ?_)
  obtain ⟨M5, eM5⟩ : ∃ y : Mm, y = sP M2 400 a0 0 (mZ M) := ⟨_, rfl⟩
  have hw := hw M5 eM5
  rw [← eM5] at hH
  have hE6 : Ext M2 M5 := by rw [eM5]; exact Ext.sP
  have hk7 := hE6.k hk3 (by decide)
  have hE := hE.tr hE6
  refine lv_iconst (v := 0) hx hb dX3_init_13 (by decide) ?_
  refine lv_istore_n (lv' := [(1, .int 0), (0, .ref a0)]) hx hb dX3_init_14 rfl hl (by decide) rfl (fun ls hl => ?_)
  refine r3_init_15 S hr hlocks hK hA hin  33 _ _ (by decide) (by decide) _ _ _ hw hE hk7 _ _ hH hS _ (lv_sub hl [1, 0] rfl)
