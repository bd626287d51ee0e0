/-! FarTypewriter$Program.<init>()V -/
abbrev rm6_init : Room := { frames := 1, cells := 0, slots := 0, locals := 12 }
def w6_init (post : Mm → Prop) (M : Mm) (a0 : Nat) : Prop :=
  post M
set_option maxHeartbeats 4000000 in
set_option maxRecDepth 100000 in
theorem m6_init (l : Launch) (g : CG) (AD : Nat → Prop) (M : Mm) (a0 : Nat) (post : Mm → Prop) (hw : w6_init post M a0) : Met l yX6_init (ws_ yX6_init cX6_init 1 none) rm6_init (CPc g AD M [.ref a0]) (CQv g AD M post) 0 0 AD := by
  refine Met.ofW (cc := cX6_init) (maxL := 1) (ret := none) (by decide) rfl ?_
  intro p e s m args below meth c s₁ B hml hv
  obtain ⟨rfl, hK, hH, hA⟩ := hv
  have hx := B.exec
  have hb := B.bytes
  have hr : meth.sig.returnType = none := B.returns
  have hts := atoms_spec (ws := ws_ yX6_init cX6_init 1 none) B.pre
  have hts : ∀ w ∈ lw_all, w.before _ s = true := fun w h => hts w (List.mem_cons_of_mem _ h)
  have hown : s.vm.findClass RX6 = some m.cls := findClass_of_methodNamed B.named
  have hlocks : meth.locks = false := B.notSynchronized
  have hin : meth.name = "<init>" := (name_of_methodNamed B.named B.method).1
  have S : CallFix p m c cX6_init 1 s _ lw_all RX6 := ⟨hx, hb, hml, hown, hts⟩
  have hS : va_S AD s.heap s.heap [] := va_S.rf
  have hE : Ext M M := Ext.rf
  have hl := lv_entry ([.ref a0]) (n := 1) (Nat.le_of_ble_eq_true rfl)
  rw [lg_entry_eq]
  generalize (lg_sl ([.ref a0]) ++ List.replicate (1 - (lg_sl ([.ref a0])).length) Slot.unset).toArray = ls at hl ⊢
  have hl : lv_has ls 1 [(0, .ref a0)] := hl
  unfold w6_init at hw
  refine lv_aload_n hx hb dX6_init_0 rfl (lv_at hl 0 rfl) ?_
  refine W.objInit hx hb hown (hts _ q202) (hts _ q81) (hts _ q82) rfl (by rw [S.2.2.1]; exact hl.1) rfl dX6_init_1 (Nat.le_of_ble_eq_true rfl) (Nat.le_of_ble_eq_true rfl) ?_
  refine W.eq (g2 := F0 m 4 ls []) rfl ?_
  exact co_vret S hr hlocks hH hE hS hw dX6_init_4
/-! FarTypewriter$Echo.<init>()V -/
abbrev rm7_init : Room := { frames := 2, cells := 0, slots := 0, locals := 32 }
def w7_init (post : Mm → Prop) (M : Mm) (a0 : Nat) : Prop :=
  w6_init (fun (M1 : Mm) => post M1) M a0
set_option maxHeartbeats 4000000 in
set_option maxRecDepth 100000 in
theorem m7_init (l : Launch) (g : CG) (AD : Nat → Prop) (M : Mm) (a0 : Nat) (post : Mm → Prop) (hw : w7_init post M a0) : Met l yX7_init (ws_ yX7_init cX7_init 1 none) rm7_init (CPc g AD M [.ref a0]) (CQv g AD M post) 0 0 AD := by
  refine Met.ofW (cc := cX7_init) (maxL := 1) (ret := none) (by decide) rfl ?_
  intro p e s m args below meth c s₁ B hml hv
  obtain ⟨rfl, hK, hH, hA⟩ := hv
  have hx := B.exec
  have hb := B.bytes
  have hr : meth.sig.returnType = none := B.returns
  have hts := atoms_spec (ws := ws_ yX7_init cX7_init 1 none) B.pre
  have hts : ∀ w ∈ lw_all, w.before _ s = true := fun w h => hts w (List.mem_cons_of_mem _ h)
  have hown : s.vm.findClass RX7 = some m.cls := findClass_of_methodNamed B.named
  have hlocks : meth.locks = false := B.notSynchronized
  have hin : meth.name = "<init>" := (name_of_methodNamed B.named B.method).1
  have S : CallFix p m c cX7_init 1 s _ lw_all RX7 := ⟨hx, hb, hml, hown, hts⟩
  have hS : va_S AD s.heap s.heap [] := va_S.rf
  have hE : Ext M M := Ext.rf
  have hl := lv_entry ([.ref a0]) (n := 1) (Nat.le_of_ble_eq_true rfl)
  rw [lg_entry_eq]
  generalize (lg_sl ([.ref a0]) ++ List.replicate (1 - (lg_sl ([.ref a0])).length) Slot.unset).toArray = ls at hl ⊢
  have hl : lv_has ls 1 [(0, .ref a0)] := hl
  unfold w7_init at hw
  refine lv_aload_n hx hb dX7_init_0 rfl (lv_at hl 0 rfl) ?_
  refine co_callv (va_runIN (As := []) (rest := []) S (m6_init l g AD M a0 _ hw) ⟨va_cnB 0 hts (lw_meth q201) rfl rfl rfl (hK.2.2.2.1 _ q199 rfl) (hts _ q60) (by decide +kernel) ⟨Nat.le_of_ble_eq_true rfl, Nat.le_of_ble_eq_true rfl⟩, rfl, hts _ q200⟩ ⟨co_blind, co_pre hK hH hA hS⟩ rfl rfl hl.1 rfl (lv_room (Nat.le_of_ble_eq_true rfl)) dX7_init_1 ⟨Nat.le_refl _, Nat.le_refl _⟩) hS (fun M1 H locs hw hH hE3 hS => ?_)
  have hE := hE.tr hE3
  exact co_vret S hr hlocks hH hE hS hw dX7_init_4
/-! FarTypewriter$Lines.<init>()V -/
abbrev rm10_init : Room := { frames := 3, cells := 0, slots := 0, locals := 52 }
def w10_init (post : Mm → Prop) (M : Mm) (a0 : Nat) : Prop :=
  w7_init (fun (M1 : Mm) => post M1) M a0
set_option maxHeartbeats 4000000 in
set_option maxRecDepth 100000 in
theorem m10_init (l : Launch) (g : CG) (AD : Nat → Prop) (M : Mm) (a0 : Nat) (post : Mm → Prop) (hk_a0 : mK M a0 = 11) (hw : w10_init post M a0) : Met l yX10_init (ws_ yX10_init cX10_init 1 none) rm10_init (CPc g AD M [.ref a0]) (CQv g AD M post) 0 0 AD := by
  refine Met.ofW (cc := cX10_init) (maxL := 1) (ret := none) (by decide) rfl ?_
  intro p e s m args below meth c s₁ B hml hv
  obtain ⟨rfl, hK, hH, hA⟩ := hv
  have hx := B.exec
  have hb := B.bytes
  have hr : meth.sig.returnType = none := B.returns
  have hts := atoms_spec (ws := ws_ yX10_init cX10_init 1 none) B.pre
  have hts : ∀ w ∈ lw_all, w.before _ s = true := fun w h => hts w (List.mem_cons_of_mem _ h)
  have hown : s.vm.findClass RX10 = some m.cls := findClass_of_methodNamed B.named
  have hlocks : meth.locks = false := B.notSynchronized
  have hin : meth.name = "<init>" := (name_of_methodNamed B.named B.method).1
  have S : CallFix p m c cX10_init 1 s _ lw_all RX10 := ⟨hx, hb, hml, hown, hts⟩
  have hS : va_S AD s.heap s.heap [] := va_S.rf
  have hE : Ext M M := Ext.rf
  have hl := lv_entry ([.ref a0]) (n := 1) (Nat.le_of_ble_eq_true rfl)
  rw [lg_entry_eq]
  generalize (lg_sl ([.ref a0]) ++ List.replicate (1 - (lg_sl ([.ref a0])).length) Slot.unset).toArray = ls at hl ⊢
  have hl : lv_has ls 1 [(0, .ref a0)] := hl
  unfold w10_init at hw
  refine lv_aload_n hx hb dX10_init_0 rfl (lv_at hl 0 rfl) ?_
  refine co_callv (va_runIN (As := []) (rest := []) S (m7_init l g AD M a0 _ hw) ⟨va_cnB 0 hts (lw_meth q198) rfl rfl rfl (hK.2.2.2.1 _ q373 rfl) (hts _ q61) (by decide +kernel) ⟨Nat.le_of_ble_eq_true rfl, Nat.le_of_ble_eq_true rfl⟩, rfl, hts _ q197⟩ ⟨co_blind, co_pre hK hH hA hS⟩ rfl rfl hl.1 rfl (lv_room (Nat.le_of_ble_eq_true rfl)) dX10_init_1 ⟨Nat.le_refl _, Nat.le_refl _⟩) hS (fun M1 H locs hw hH hE3 hS => ?_)
  have hk5 := hE3.k hk_a0 (by decide)
  have hE := hE.tr hE3
  exact co_vret S hr hlocks hH hE hS hw dX10_init_4
/-! FarTypewriter.isLetter(I)Z -/
abbrev rm0_isLetter : Room := { frames := 0, cells := 0, slots := 0, locals := 0 }
def w0_isLetter (post : Int32 → Mm → Prop) (M : Mm) (x0 : Int32) : Prop :=
  (x0 < 32 → post 0 M) ∧ (¬ x0 < 32 → (126 < x0 → post 0 M) ∧ (¬ 126 < x0 → post 1 M))
set_option maxHeartbeats 4000000 in
set_option maxRecDepth 100000 in
theorem m0_isLetter (l : Launch) (g : CG) (AD : Nat → Prop) (M : Mm) (x0 : Int32) (post : Int32 → Mm → Prop) (hw : w0_isLetter post M x0) : Met l yX0_isLetter (ws_ yX0_isLetter cX0_isLetter 1 (some .boolean)) rm0_isLetter (CPc g AD M [.int x0]) (CQi g AD M post) 0 0 AD := by
  refine Met.ofW (cc := cX0_isLetter) (maxL := 1) (ret := (some .boolean)) (by decide) rfl ?_
  intro p e s m args below meth c s₁ B hml hv
  obtain ⟨rfl, hK, hH, hA⟩ := hv
  have hx := B.exec
  have hb := B.bytes
  have hr : meth.sig.returnType = (some .boolean) := B.returns
  have hts := atoms_spec (ws := ws_ yX0_isLetter cX0_isLetter 1 (some .boolean)) B.pre
  have hts : ∀ w ∈ lw_all, w.before _ s = true := fun w h => hts w (List.mem_cons_of_mem _ h)
  have hown : s.vm.findClass RX0 = some m.cls := findClass_of_methodNamed B.named
  have hlocks : meth.locks = false := B.notSynchronized
  have S : CallFix p m c cX0_isLetter 1 s _ lw_all RX0 := ⟨hx, hb, hml, hown, hts⟩
  have hS : va_S AD s.heap s.heap [] := va_S.rf
  have hE : Ext M M := Ext.rf
  have hl := lv_entry ([.int x0]) (n := 1) (Nat.le_of_ble_eq_true rfl)
  rw [lg_entry_eq]
  generalize (lg_sl ([.int x0]) ++ List.replicate (1 - (lg_sl ([.int x0])).length) Slot.unset).toArray = ls at hl ⊢
  have hl : lv_has ls 1 [(0, .int x0)] := hl
  unfold w0_isLetter at hw
  refine lv_iload_n hx hb dX0_isLetter_0 rfl (lv_at hl 0 rfl) ?_
  refine lv_bipush (v := 32) hx hb dX0_isLetter_1 (by decide) ?_
  refine lv_icmp_lt (tgt := 16) hx hb dX0_isLetter_3 (by decide) (fun c1 => ?_) (fun c1 => ?_)
  · have hw := hw.1 c1
    refine lv_iconst (v := 0) hx hb dX0_isLetter_16 (by decide) ?_
    exact co_zret S hr hlocks hH hE hS rfl hw dX0_isLetter_17
  · have hw := hw.2 c1
    refine lv_iload_n hx hb dX0_isLetter_6 rfl (lv_at hl 0 rfl) ?_
    refine lv_bipush (v := 126) hx hb dX0_isLetter_7 (by decide) ?_
    refine lv_icmp_gt (tgt := 16) hx hb dX0_isLetter_9 (by decide) (fun c2 => ?_) (fun c2 => ?_)
    · have hw := hw.1 c2
      refine lv_iconst (v := 0) hx hb dX0_isLetter_16 (by decide) ?_
      exact co_zret S hr hlocks hH hE hS rfl hw dX0_isLetter_17
    · have hw := hw.2 c2
      refine lv_iconst (v := 1) hx hb dX0_isLetter_12 (by decide) ?_
      refine lv_goto (tgt := 17) hx hb dX0_isLetter_13 (by decide) ?_
      exact co_zret S hr hlocks hH hE hS rfl hw dX0_isLetter_17
/-! FarTypewriter$Screen.isCell(II)Z -/
abbrev rm5_isCell : Room := { frames := 0, cells := 0, slots := 0, locals := 0 }
def w5_isCell (post : Int32 → Mm → Prop) (M : Mm) (x0 : Int32) (x1 : Int32) : Prop :=
  (x0 < 0 → post 0 M) ∧ (¬ x0 < 0 → (8 ≤ x0 → post 0 M) ∧ (¬ 8 ≤ x0 → (x1 < 0 → post 0 M) ∧ (¬ x1 < 0 → (24 ≤ x1 → post 0 M) ∧ (¬ 24 ≤ x1 → post 1 M))))
set_option maxHeartbeats 4000000 in
set_option maxRecDepth 100000 in
theorem m5_isCell (l : Launch) (g : CG) (AD : Nat → Prop) (M : Mm) (x0 : Int32) (x1 : Int32) (post : Int32 → Mm → Prop) (hw : w5_isCell post M x0 x1) : Met l yX5_isCell (ws_ yX5_isCell cX5_isCell 2 (some .boolean)) rm5_isCell (CPc g AD M [.int x0, .int x1]) (CQi g AD M post) 0 0 AD := by
  refine Met.ofW (cc := cX5_isCell) (maxL := 2) (ret := (some .boolean)) (by decide) rfl ?_
  intro p e s m args below meth c s₁ B hml hv
  obtain ⟨rfl, hK, hH, hA⟩ := hv
  have hx := B.exec
  have hb := B.bytes
  have hr : meth.sig.returnType = (some .boolean) := B.returns
  have hts := atoms_spec (ws := ws_ yX5_isCell cX5_isCell 2 (some .boolean)) B.pre
  have hts : ∀ w ∈ lw_all, w.before _ s = true := fun w h => hts w (List.mem_cons_of_mem _ h)
  have hown : s.vm.findClass RX5 = some m.cls := findClass_of_methodNamed B.named
  have hlocks : meth.locks = false := B.notSynchronized
  have S : CallFix p m c cX5_isCell 2 s _ lw_all RX5 := ⟨hx, hb, hml, hown, hts⟩
  have hS : va_S AD s.heap s.heap [] := va_S.rf
  have hE : Ext M M := Ext.rf
  have hl := lv_entry ([.int x0, .int x1]) (n := 2) (Nat.le_of_ble_eq_true rfl)
  rw [lg_entry_eq]
  generalize (lg_sl ([.int x0, .int x1]) ++ List.replicate (2 - (lg_sl ([.int x0, .int x1])).length) Slot.unset).toArray = ls at hl ⊢
  have hl : lv_has ls 2 [(0, .int x0), (1, .int x1)] := hl
  unfold w5_isCell at hw
  refine lv_iload_n hx hb dX5_isCell_0 rfl (lv_at hl 0 rfl) ?_
  refine lv_if_lt (tgt := 24) hx hb dX5_isCell_1 (by decide) (fun c1 => ?_) (fun c1 => ?_)
  · have hw := hw.1 c1
    refine lv_iconst (v := 0) hx hb dX5_isCell_24 (by decide) ?_
    exact co_zret S hr hlocks hH hE hS rfl hw dX5_isCell_25
  · have hw := hw.2 c1
    refine lv_iload_n hx hb dX5_isCell_4 rfl (lv_at hl 0 rfl) ?_
    refine lv_bipush (v := 8) hx hb dX5_isCell_5 (by decide) ?_
    refine lv_icmp_ge (tgt := 24) hx hb dX5_isCell_7 (by decide) (fun c2 => ?_) (fun c2 => ?_)
    · have hw := hw.1 c2
      refine lv_iconst (v := 0) hx hb dX5_isCell_24 (by decide) ?_
      exact co_zret S hr hlocks hH hE hS rfl hw dX5_isCell_25
    · have hw := hw.2 c2
      refine lv_iload_n hx hb dX5_isCell_10 rfl (lv_at hl 1 rfl) ?_
      refine lv_if_lt (tgt := 24) hx hb dX5_isCell_11 (by decide) (fun c3 => ?_) (fun c3 => ?_)
      · have hw := hw.1 c3
        refine lv_iconst (v := 0) hx hb dX5_isCell_24 (by decide) ?_
        exact co_zret S hr hlocks hH hE hS rfl hw dX5_isCell_25
      · have hw := hw.2 c3
        refine lv_iload_n hx hb dX5_isCell_14 rfl (lv_at hl 1 rfl) ?_
        refine lv_bipush (v := 24) hx hb dX5_isCell_15 (by decide) ?_
        refine lv_icmp_ge (tgt := 24) hx hb dX5_isCell_17 (by decide) (fun c4 => ?_) (fun c4 => ?_)
        · have hw := hw.1 c4
          refine lv_iconst (v := 0) hx hb dX5_isCell_24 (by decide) ?_
          exact co_zret S hr hlocks hH hE hS rfl hw dX5_isCell_25
        · have hw := hw.2 c4
          refine lv_iconst (v := 1) hx hb dX5_isCell_20 (by decide) ?_
          refine lv_goto (tgt := 25) hx hb dX5_isCell_21 (by decide) ?_
          exact co_zret S hr hlocks hH hE hS rfl hw dX5_isCell_25
/-! FarTypewriter$Screen.steps(II)V -/
abbrev rm5_steps : Room := { frames := 1, cells := 0, slots := 0, locals := 21 }
def w5_steps (post : Mm → Prop) (M : Mm) (a0 : Nat) (x1 : Int32) (x2 : Int32) : Prop :=
  w5_isCell (fun (r2 : Int32) (M1 : Mm) => (r2 = 0 → post M1) ∧ (¬ r2 = 0 → ∀ M7 : Mm, M7 = sI M1 602 a0 0 ((mI M1 602 a0 0) + x1) → (∀ M10 : Mm, M10 = sI M7 603 a0 0 ((mI M7 603 a0 0) + x2) → (post M10)))) M ((mI M 602 a0 0) + x1) ((mI M 603 a0 0) + x2)
set_option maxHeartbeats 4000000 in
set_option maxRecDepth 100000 in
theorem m5_steps (l : Launch) (g : CG) (AD : Nat → Prop) (M : Mm) (a0 : Nat) (x1 : Int32) (x2 : Int32) (post : Mm → Prop) (hk_a0 : mK M a0 = 6) (hw : w5_steps post M a0 x1 x2) : Met l yX5_steps (ws_ yX5_steps cX5_steps 3 none) rm5_steps (CPc g AD M [.ref a0, .int x1, .int x2]) (CQv g AD M post) 0 0 AD := by
  refine Met.ofW (cc := cX5_steps) (maxL := 3) (ret := none) (by decide) rfl ?_
  intro p e s m args below meth c s₁ B hml hv
  obtain ⟨rfl, hK, hH, hA⟩ := hv
  have hx := B.exec
  have hb := B.bytes
  have hr : meth.sig.returnType = none := B.returns
  have hts := atoms_spec (ws := ws_ yX5_steps cX5_steps 3 none) B.pre
  have hts : ∀ w ∈ lw_all, w.before _ s = true := fun w h => hts w (List.mem_cons_of_mem _ h)
  have hown : s.vm.findClass RX5 = some m.cls := findClass_of_methodNamed B.named
  have hlocks : meth.locks = false := B.notSynchronized
  have S : CallFix p m c cX5_steps 3 s _ lw_all RX5 := ⟨hx, hb, hml, hown, hts⟩
  have hS : va_S AD s.heap s.heap [] := va_S.rf
  have hE : Ext M M := Ext.rf
  have hl := lv_entry ([.ref a0, .int x1, .int x2]) (n := 3) (Nat.le_of_ble_eq_true rfl)
  rw [lg_entry_eq]
  generalize (lg_sl ([.ref a0, .int x1, .int x2]) ++ List.replicate (3 - (lg_sl ([.ref a0, .int x1, .int x2])).length) Slot.unset).toArray = ls at hl ⊢
  have hl : lv_has ls 3 [(0, .ref a0), (1, .int x1), (2, .int x2)] := hl
  unfold w5_steps at hw
  refine lv_aload_n hx hb dX5_steps_0 rfl (lv_at hl 0 rfl) ?_
  refine co_geti S hK hH 5 2 602 (by decide) ⟨by decide, rfl, rfl, rfl⟩ (Or.inl q154) hk_a0 dX5_steps_1 ?_
  refine lv_iload_n hx hb dX5_steps_4 rfl (lv_at hl 1 rfl) ?_
  refine lv_iadd hx hb dX5_steps_5 ?_
  refine lv_aload_n hx hb dX5_steps_6 rfl (lv_at hl 0 rfl) ?_
  refine co_geti S hK hH 5 3 603 (by decide) ⟨by decide, rfl, rfl, rfl⟩ (Or.inl q159) hk_a0 dX5_steps_7 ?_
  refine lv_iload_n hx hb dX5_steps_10 rfl (lv_at hl 2 rfl) ?_
  refine lv_iadd hx hb dX5_steps_11 ?_
  refine co_calli (va_runS (As := [.int ((mI M 602 a0 0) + x1), .int ((mI M 603 a0 0) + x2)]) (rest := []) S (m5_isCell l g AD M ((mI M 602 a0 0) + x1) ((mI M 603 a0 0) + x2) _ hw) (va_cwS 2 hts (lw_S q655 q425 q59 q426) rfl rfl rfl (by decide +kernel) ⟨Nat.le_of_ble_eq_true rfl, Nat.le_of_ble_eq_true rfl⟩) ⟨co_blind, co_pre hK hH hA hS⟩ rfl rfl hl.1 rfl (lv_room (Nat.le_of_ble_eq_true rfl)) dX5_steps_12 ⟨Nat.le_refl _, Nat.le_refl _⟩) hS (fun r2 M1 H locs hw hH hE3 hS => ?_)
  have hk5 := hE3.k hk_a0 (by decide)
  have hE := hE.tr hE3
  refine lv_if_ne (tgt := 19) hx hb dX5_steps_15 (by decide) (fun c6 => ?_) (fun c6 => ?_)
  · have hw := hw.2 c6
    refine lv_aload_n hx hb dX5_steps_19 rfl (lv_at hl 0 rfl) ?_
    refine lv_dup hx hb dX5_steps_20 rfl ?_
    refine co_geti S hK hH 5 2 602 (by decide) ⟨by decide, rfl, rfl, rfl⟩ (Or.inl q154) hk5 dX5_steps_21 ?_
    refine lv_iload_n hx hb dX5_steps_24 rfl (lv_at hl 1 rfl) ?_
    refine lv_iadd hx hb dX5_steps_25 ?_
    refine co_puti S hK hH hS 5 2 602 (by decide) ⟨by decide, rfl, rfl, rfl, rfl⟩ (Or.inl q154) hk5 ⟨rfl, rfl⟩ dX5_steps_26 (fun H locs hH hS => ?_)
    obtain ⟨M7, eM7⟩ : ∃ y : Mm, y = sI M1 602 a0 0 ((mI M1 602 a0 0) + x1) := ⟨_, rfl⟩
    have hw := hw M7 eM7
    rw [← eM7] at hH
    have hE8 : Ext M1 M7 := by rw [eM7]; exact Ext.sI
    have hk9 := hE8.k hk5 (by decide)
    have hE := hE.tr hE8
    refine lv_aload_n hx hb dX5_steps_29 rfl (lv_at hl 0 rfl) ?_
    refine lv_dup hx hb dX5_steps_30 rfl ?_
    refine co_geti S hK hH 5 3 603 (by decide) ⟨by decide, rfl, rfl, rfl⟩ (Or.inl q159) hk9 dX5_steps_31 ?_
    refine lv_iload_n hx hb dX5_steps_34 rfl (lv_at hl 2 rfl) ?_
    refine lv_iadd hx hb dX5_steps_35 ?_
    refine co_puti S hK hH hS 5 3 603 (by decide) ⟨by decide, rfl, rfl, rfl, rfl⟩ (Or.inl q159) hk9 ⟨rfl, rfl⟩ dX5_steps_36 (fun H locs hH hS => ?_)
    obtain ⟨M10, eM10⟩ : ∃ y : Mm, y = sI M7 603 a0 0 ((mI M7 603 a0 0) + x2) := ⟨_, rfl⟩
    have hw := hw M10 eM10
    rw [← eM10] at hH
    have hE11 : Ext M7 M10 := by rw [eM10]; exact Ext.sI
    have hk12 := hE11.k hk9 (by decide)
    have hE := hE.tr hE11
    exact co_vret S hr hlocks hH hE hS hw dX5_steps_39
  · have hw := hw.1 c6
    exact co_vret S hr hlocks hH hE hS hw dX5_steps_18
/-! FarTypewriter$Screen.put(IIII)V -/
abbrev rm5_put : Room := { frames := 0, cells := 0, slots := 0, locals := 0 }
def w5_put (post : Mm → Prop) (M : Mm) (a0 : Nat) (x1 : Int32) (x2 : Int32) (x3 : Int32) (x4 : Int32) : Prop :=
  mK M (mP M 600 a0 0) = 21 ∧ (vp_in x1 8 ∧ (mK M (mP M 21 (mP M 600 a0 0) x1.toNatClampNeg) = 20 ∧ (vp_in x2 24 ∧ (∀ M5 : Mm, M5 = sI M 20 (mP M 21 (mP M 600 a0 0) x1.toNatClampNeg) x2.toNatClampNeg (x3.toInt8.toInt32).toInt8.toInt32 → (mK M5 (mP M5 601 a0 0) = 21 ∧ (vp_in x1 8 ∧ (mK M5 (mP M5 21 (mP M5 601 a0 0) x1.toNatClampNeg) = 20 ∧ (vp_in x2 24 ∧ (∀ M12 : Mm, M12 = sI M5 20 (mP M5 21 (mP M5 601 a0 0) x1.toNatClampNeg) x2.toNatClampNeg (x4.toInt8.toInt32).toInt8.toInt32 → (post M12))))))))))
set_option maxHeartbeats 4000000 in
set_option maxRecDepth 100000 in
theorem m5_put (l : Launch) (g : CG) (AD : Nat → Prop) (M : Mm) (a0 : Nat) (x1 : Int32) (x2 : Int32) (x3 : Int32) (x4 : Int32) (post : Mm → Prop) (hk_a0 : mK M a0 = 6) (hw : w5_put post M a0 x1 x2 x3 x4) : Met l yX5_put (ws_ yX5_put cX5_put 5 none) rm5_put (CPc g AD M [.ref a0, .int x1, .int x2, .int x3, .int x4]) (CQv g AD M post) 0 0 AD := by
  refine Met.ofW (cc := cX5_put) (maxL := 5) (ret := none) (by decide) rfl ?_
  intro p e s m args below meth c s₁ B hml hv
  obtain ⟨rfl, hK, hH, hA⟩ := hv
  have hx := B.exec
  have hb := B.bytes
  have hr : meth.sig.returnType = none := B.returns
  have hts := atoms_spec (ws := ws_ yX5_put cX5_put 5 none) B.pre
  have hts : ∀ w ∈ lw_all, w.before _ s = true := fun w h => hts w (List.mem_cons_of_mem _ h)
  have hown : s.vm.findClass RX5 = some m.cls := findClass_of_methodNamed B.named
  have hlocks : meth.locks = false := B.notSynchronized
  have S : CallFix p m c cX5_put 5 s _ lw_all RX5 := ⟨hx, hb, hml, hown, hts⟩
  have hS : va_S AD s.heap s.heap [] := va_S.rf
  have hE : Ext M M := Ext.rf
  have hl := lv_entry ([.ref a0, .int x1, .int x2, .int x3, .int x4]) (n := 5) (Nat.le_of_ble_eq_true rfl)
  rw [lg_entry_eq]
  generalize (lg_sl ([.ref a0, .int x1, .int x2, .int x3, .int x4]) ++ List.replicate (5 - (lg_sl ([.ref a0, .int x1, .int x2, .int x3, .int x4])).length) Slot.unset).toArray = ls at hl ⊢
  have hl : lv_has ls 5 [(0, .ref a0), (1, .int x1), (2, .int x2), (3, .int x3), (4, .int x4)] := hl
  unfold w5_put at hw
  refine lv_aload_n hx hb dX5_put_0 rfl (lv_at hl 0 rfl) ?_
  have hk1 := hw.1
  have hw := hw.2
  refine co_getr S hK hH 5 0 600 (by decide) ⟨by decide, rfl, rfl, rfl⟩ (Or.inl q148) hk_a0 (by rw [hk1]; decide) dX5_put_1 ?_
  refine lv_iload_n hx hb dX5_put_4 rfl (lv_at hl 1 rfl) ?_
  have hin2 := hw.1
  have hw := hw.2
  have hk3 := hw.1
  have hw := hw.2
  refine co_aald S hK hH 1 21 ⟨by decide, rfl, rfl⟩ hk1 hin2 (by rw [hk3]; decide) dX5_put_5 ?_
  refine lv_iload_n hx hb dX5_put_6 rfl (lv_at hl 2 rfl) ?_
  refine lv_iload_n hx hb dX5_put_7 rfl (lv_at hl 3 rfl) ?_
  refine lv_i2b (v := x3.toInt8.toInt32) hx hb dX5_put_8 rfl ?_
  have hin4 := hw.1
  have hw := hw.2
  refine co_bast S hK hH hS 0 20 ⟨by decide, rfl, rfl⟩ hk3 hin4 dX5_put_9 (fun H locs hH hS => ?_)
  obtain ⟨M5, eM5⟩ : ∃ y : Mm, y = sI M 20 (mP M 21 (mP M 600 a0 0) x1.toNatClampNeg) x2.toNatClampNeg (x3.toInt8.toInt32).toInt8.toInt32 := ⟨_, rfl⟩
  have hw := hw M5 eM5
  rw [← eM5] at hH
  have hE6 : Ext M M5 := by rw [eM5]; exact Ext.sI
  have hk7 := hE6.k hk_a0 (by decide)
  have hE := hE.tr hE6
  refine lv_aload_n hx hb dX5_put_10 rfl (lv_at hl 0 rfl) ?_
  have hk8 := hw.1
  have hw := hw.2
  refine co_getr S hK hH 5 1 601 (by decide) ⟨by decide, rfl, rfl, rfl⟩ (Or.inl q151) hk7 (by rw [hk8]; decide) dX5_put_11 ?_
  refine lv_iload_n hx hb dX5_put_14 rfl (lv_at hl 1 rfl) ?_
  have hin9 := hw.1
  have hw := hw.2
  have hk10 := hw.1
  have hw := hw.2
  refine co_aald S hK hH 1 21 ⟨by decide, rfl, rfl⟩ hk8 hin9 (by rw [hk10]; decide) dX5_put_15 ?_
  refine lv_iload_n hx hb dX5_put_16 rfl (lv_at hl 2 rfl) ?_
  refine lv_iload hx hb dX5_put_17 (lv_at hl 4 rfl) ?_
  refine lv_i2b (v := x4.toInt8.toInt32) hx hb dX5_put_19 rfl ?_
  have hin11 := hw.1
  have hw := hw.2
  refine co_bast S hK hH hS 0 20 ⟨by decide, rfl, rfl⟩ hk10 hin11 dX5_put_20 (fun H locs hH hS => ?_)
  obtain ⟨M12, eM12⟩ : ∃ y : Mm, y = sI M5 20 (mP M5 21 (mP M5 601 a0 0) x1.toNatClampNeg) x2.toNatClampNeg (x4.toInt8.toInt32).toInt8.toInt32 := ⟨_, rfl⟩
  have hw := hw M12 eM12
  rw [← eM12] at hH
  have hE13 : Ext M5 M12 := by rw [eM12]; exact Ext.sI
  have hk14 := hE13.k hk7 (by decide)
  have hE := hE.tr hE13
  exact co_vret S hr hlocks hH hE hS hw dX5_put_21
/-! FarTypewriter$Screen.back()V -/
abbrev rm5_back : Room := { frames := 1, cells := 0, slots := 0, locals := 24 }
def w5_back (post : Mm → Prop) (M : Mm) (a0 : Nat) : Prop :=
  ((mI M 603 a0 0) = 0 → post M) ∧ (¬ (mI M 603 a0 0) = 0 → ∀ M2 : Mm, M2 = sI M 603 a0 0 ((mI M 603 a0 0) - 1) → (w5_put (fun (M5 : Mm) => post M5) M2 a0 (mI M2 602 a0 0) (mI M2 603 a0 0) 32 0))
set_option maxHeartbeats 4000000 in
set_option maxRecDepth 100000 in
theorem m5_back (l : Launch) (g : CG) (AD : Nat → Prop) (M : Mm) (a0 : Nat) (post : Mm → Prop) (hk_a0 : mK M a0 = 6) (hw : w5_back post M a0) : Met l yX5_back (ws_ yX5_back cX5_back 1 none) rm5_back (CPc g AD M [.ref a0]) (CQv g AD M post) 0 0 AD := by
  refine Met.ofW (cc := cX5_back) (maxL := 1) (ret := none) (by decide) rfl ?_
  intro p e s m args below meth c s₁ B hml hv
  obtain ⟨rfl, hK, hH, hA⟩ := hv
  have hx := B.exec
  have hb := B.bytes
  have hr : meth.sig.returnType = none := B.returns
  have hts := atoms_spec (ws := ws_ yX5_back cX5_back 1 none) B.pre
  have hts : ∀ w ∈ lw_all, w.before _ s = true := fun w h => hts w (List.mem_cons_of_mem _ h)
  have hown : s.vm.findClass RX5 = some m.cls := findClass_of_methodNamed B.named
  have hlocks : meth.locks = false := B.notSynchronized
  have S : CallFix p m c cX5_back 1 s _ lw_all RX5 := ⟨hx, hb, hml, hown, hts⟩
  have hS : va_S AD s.heap s.heap [] := va_S.rf
  have hE : Ext M M := Ext.rf
  have hl := lv_entry ([.ref a0]) (n := 1) (Nat.le_of_ble_eq_true rfl)
  rw [lg_entry_eq]
  generalize (lg_sl ([.ref a0]) ++ List.replicate (1 - (lg_sl ([.ref a0])).length) Slot.unset).toArray = ls at hl ⊢
  have hl : lv_has ls 1 [(0, .ref a0)] := hl
  unfold w5_back at hw
  refine lv_aload_n hx hb dX5_back_0 rfl (lv_at hl 0 rfl) ?_
  refine co_geti S hK hH 5 3 603 (by decide) ⟨by decide, rfl, rfl, rfl⟩ (Or.inl q159) hk_a0 dX5_back_1 ?_
  refine lv_if_ne (tgt := 8) hx hb dX5_back_4 (by decide) (fun c1 => ?_) (fun c1 => ?_)
  · have hw := hw.2 c1
    refine lv_aload_n hx hb dX5_back_8 rfl (lv_at hl 0 rfl) ?_
    refine lv_dup hx hb dX5_back_9 rfl ?_
    refine co_geti S hK hH 5 3 603 (by decide) ⟨by decide, rfl, rfl, rfl⟩ (Or.inl q159) hk_a0 dX5_back_10 ?_
    refine lv_iconst (v := 1) hx hb dX5_back_13 (by decide) ?_
    refine lv_isub hx hb dX5_back_14 ?_
    refine co_puti S hK hH hS 5 3 603 (by decide) ⟨by decide, rfl, rfl, rfl, rfl⟩ (Or.inl q159) hk_a0 ⟨rfl, rfl⟩ dX5_back_15 (fun H locs hH hS => ?_)
    obtain ⟨M2, eM2⟩ : ∃ y : Mm, y = sI M 603 a0 0 ((mI M 603 a0 0) - 1) := ⟨_, rfl⟩
    have hw := hw M2 eM2
    rw [← eM2] at hH
    have hE3 : Ext M M2 := by rw [eM2]; exact Ext.sI
    have hk4 := hE3.k hk_a0 (by decide)
    have hE := hE.tr hE3
    refine lv_aload_n hx hb dX5_back_18 rfl (lv_at hl 0 rfl) ?_
    refine lv_aload_n hx hb dX5_back_19 rfl (lv_at hl 0 rfl) ?_
    refine co_geti S hK hH 5 2 602 (by decide) ⟨by decide, rfl, rfl, rfl⟩ (Or.inl q154) hk4 dX5_back_20 ?_
    refine lv_aload_n hx hb dX5_back_23 rfl (lv_at hl 0 rfl) ?_
    refine co_geti S hK hH 5 3 603 (by decide) ⟨by decide, rfl, rfl, rfl⟩ (Or.inl q159) hk4 dX5_back_24 ?_
    refine lv_bipush (v := 32) hx hb dX5_back_27 (by decide) ?_
    refine lv_iconst (v := 0) hx hb dX5_back_29 (by decide) ?_
    refine co_callv (va_runV (As := [.int (mI M2 602 a0 0), .int (mI M2 603 a0 0), .int 32, .int 0]) (rest := []) S (m5_put l g AD M2 a0 (mI M2 602 a0 0) (mI M2 603 a0 0) 32 0 _ hk4 hw) (cwV 4 hts (lw_V q144 q145 q146 q59 q147) rfl rfl rfl (by decide +kernel) ⟨Nat.le_of_ble_eq_true rfl, Nat.le_of_ble_eq_true rfl⟩) ⟨co_blind, co_recv hK hH (c := 5) (by decide) hk4, co_pre hK hH hA hS⟩ rfl rfl hl.1 rfl (lv_room (Nat.le_of_ble_eq_true rfl)) dX5_back_30 ⟨Nat.le_refl _, Nat.le_refl _⟩) hS (fun M5 H locs hw hH hE7 hS => ?_)
    have hk9 := hE7.k hk4 (by decide)
    have hE := hE.tr hE7
    exact co_vret S hr hlocks hH hE hS hw dX5_back_33
  · have hw := hw.1 c1
    exact co_vret S hr hlocks hH hE hS hw dX5_back_7
/-! FarTypewriter$Screen.wipe(I)V -/
abbrev rm5_wipe : Room := { frames := 1, cells := 0, slots := 0, locals := 24 }
def b5_wipe_2 (post : Mm → Prop)  (kb : Mm → Nat → Int32 → Int32 → Prop) (M : Mm) (a0 : Nat) (x1 : Int32) (x2 : Int32) : Prop :=
  (24 ≤ x2 → post M) ∧ (¬ 24 ≤ x2 → w5_put (fun (M2 : Mm) => kb M2 a0 x1 (x2 + 1)) M a0 x1 x2 32 0)
def w5_wipe_2 (post : Mm → Prop)  : Nat → Mm → Nat → Int32 → Int32 → Prop
  | 0 => fun _ _ _ _ => False
  | n + 1 => b5_wipe_2 post  (w5_wipe_2 post  n)
set_option maxHeartbeats 4000000 in
set_option maxRecDepth 100000 in
theorem r5_wipe_2 {p : Program} {l : Launch} {e : Env} {s : State} {m : MethodId} {args : Array Value} {below : List Frame} {meth : Method} {c : Code} {g : CG} {AD : Nat → Prop} {M0 : Mm} (S : CallFix p m c cX5_wipe 3 s args lw_all RX5) (hr : meth.sig.returnType = none) (hlocks : meth.locks = false) (hK : KC g s) (hA : ∀ q, s.heap.size ≤ q → AD q) {post : Mm → Prop}  : ∀ n : Nat, ∀ (M : Mm) (a0 : Nat) (x1 : Int32) (x2 : Int32), w5_wipe_2 post  n M a0 x1 x2 → Ext M0 M → mK M a0 = 6 → ∀ (H : Heap) (locs : List Loc), HC g AD M H → va_S AD s.heap H locs → ∀ (ls : Array Slot), lv_has ls 3 [(0, .ref a0), (1, .int x1), (2, .int x2)] → W p l e rm5_wipe s m args below meth c H locs 0 0 (MQ below (CQv g AD M0 post) args s 0 0 AD) (F0 m 2 ls []) := by
  have hx := S.1
  have hb := S.2.1
  have hown := S.2.2.2.1
  have hts := S.2.2.2.2
  intro n
  induction n with
  | zero =>
    intro M a0 x1 x2 hw
    exact hw.elim
  | succ n hkb =>
    intro M a0 x1 x2 hw hE hk_a0 H locs hH hS ls hl
    unfold w5_wipe_2 b5_wipe_2 at hw
    refine lv_iload_n hx hb dX5_wipe_2 rfl (lv_at hl 2 rfl) ?_
    refine lv_bipush (v := 24) hx hb dX5_wipe_3 (by decide) ?_
    refine lv_icmp_ge (tgt := 23) hx hb dX5_wipe_5 (by decide) (fun c1 => ?_) (fun c1 => ?_)
    · have hw := hw.1 c1
      exact co_vret S hr hlocks hH hE hS hw dX5_wipe_23
    · have hw := hw.2 c1
      refine lv_aload_n hx hb dX5_wipe_8 rfl (lv_at hl 0 rfl) ?_
      refine lv_iload_n hx hb dX5_wipe_9 rfl (lv_at hl 1 rfl) ?_
      refine lv_iload_n hx hb dX5_wipe_10 rfl (lv_at hl 2 rfl) ?_
      refine lv_bipush (v := 32) hx hb dX5_wipe_11 (by decide) ?_
      refine lv_iconst (v := 0) hx hb dX5_wipe_13 (by decide) ?_
      refine co_callv (va_runV (As := [.int x1, .int x2, .int 32, .int 0]) (rest := []) S (m5_put l g AD M a0 x1 x2 32 0 _ hk_a0 hw) (cwV 4 hts (lw_V q144 q145 q146 q59 q147) rfl rfl rfl (by decide +kernel) ⟨Nat.le_of_ble_eq_true rfl, Nat.le_of_ble_eq_true rfl⟩) ⟨co_blind, co_recv hK hH (c := 5) (by decide) hk_a0, co_pre hK hH hA hS⟩ rfl rfl hl.1 rfl (lv_room (Nat.le_of_ble_eq_true rfl)) dX5_wipe_14 ⟨Nat.le_refl _, Nat.le_refl _⟩) hS (fun M2 H locs hw hH hE4 hS => ?_)
      have hk6 := hE4.k hk_a0 (by decide)
      have hE := hE.tr hE4
      refine lv_iinc (v := x2 + 1) (lv' := [(2, .int (x2 + 1)), (0, .ref a0), (1, .int x1)]) hx hb dX5_wipe_17 hl (k := 2) rfl rfl (by decide) rfl (fun ls hl => ?_)
      refine lv_goto (tgt := 2) hx hb dX5_wipe_20 (by decide) ?_
      exact hkb _ _ _ _ hw hE hk6 _ _ hH hS _ (lv_sub hl [1, 2, 0] rfl)
def w5_wipe (post : Mm → Prop) (M : Mm) (a0 : Nat) (x1 : Int32) : Prop :=
  ∃ n, w5_wipe_2 post  n M a0 x1 0
set_option maxHeartbeats 4000000 in
set_option maxRecDepth 100000 in
theorem m5_wipe (l : Launch) (g : CG) (AD : Nat → Prop) (M : Mm) (a0 : Nat) (x1 : Int32) (post : Mm → Prop) (hk_a0 : mK M a0 = 6) (hw : w5_wipe post M a0 x1) : Met l yX5_wipe (ws_ yX5_wipe cX5_wipe 3 none) rm5_wipe (CPc g AD M [.ref a0, .int x1]) (CQv g AD M post) 0 0 AD := by
  refine Met.ofW (cc := cX5_wipe) (maxL := 3) (ret := none) (by decide) rfl ?_
  intro p e s m args below meth c s₁ B hml hv
  obtain ⟨rfl, hK, hH, hA⟩ := hv
  have hx := B.exec
  have hb := B.bytes
  have hr : meth.sig.returnType = none := B.returns
  have hts := atoms_spec (ws := ws_ yX5_wipe cX5_wipe 3 none) B.pre
  have hts : ∀ w ∈ lw_all, w.before _ s = true := fun w h => hts w (List.mem_cons_of_mem _ h)
  have hown : s.vm.findClass RX5 = some m.cls := findClass_of_methodNamed B.named
  have hlocks : meth.locks = false := B.notSynchronized
  have S : CallFix p m c cX5_wipe 3 s _ lw_all RX5 := ⟨hx, hb, hml, hown, hts⟩
  have hS : va_S AD s.heap s.heap [] := va_S.rf
  have hE : Ext M M := Ext.rf
  have hl := lv_entry ([.ref a0, .int x1]) (n := 3) (Nat.le_of_ble_eq_true rfl)
  rw [lg_entry_eq]
  generalize (lg_sl ([.ref a0, .int x1]) ++ List.replicate (3 - (lg_sl ([.ref a0, .int x1])).length) Slot.unset).toArray = ls at hl ⊢
  have hl : lv_has ls 3 [(0, .ref a0), (1, .int x1)] := hl
  unfold w5_wipe at hw
  refine lv_iconst (v := 0) hx hb dX5_wipe_0 (by decide) ?_
  refine lv_istore_n (lv' := [(2, .int 0), (0, .ref a0), (1, .int x1)]) hx hb dX5_wipe_1 rfl hl (by decide) rfl (fun ls hl => ?_)
  obtain ⟨n, hw⟩ := hw
  refine r5_wipe_2 S hr hlocks hK hA  n _ _ _ _ hw hE hk_a0 _ _ hH hS _ (lv_sub hl [1, 2, 0] rfl)
/-! FarTypewriter$Screen.scroll(I)V -/
abbrev rm5_scroll : Room := { frames := 2, cells := 0, slots := 0, locals := 200 }
def b5_scroll_2 (post : Mm → Prop)  (kb : Mm → Nat → Int32 → Int32 → Prop) (M : Mm) (a0 : Nat) (x1 : Int32) (x2 : Int32) : Prop :=
  (x1 ≤ x2 → post M) ∧ (¬ x1 ≤ x2 → mK M (mP M 600 a0 0) = 21 ∧ (vp_in 0 8 ∧ (mK M (mP M 21 (mP M 600 a0 0) (0 : Int32).toNatClampNeg) = 20 ∧ (mK M (mP M 601 a0 0) = 21 ∧ (vp_in 0 8 ∧ (mK M (mP M 21 (mP M 601 a0 0) (0 : Int32).toNatClampNeg) = 20 ∧ (mK M (mP M 600 a0 0) = 21 ∧ (mK M (mP M 600 a0 0) = 21 ∧ ((∀ i11 : Nat, i11 < (7 : Int32).toNatClampNeg → mK M (mP M 21 (mP M 600 a0 0) ((1 : Int32).toNatClampNeg + i11)) = 20) ∧ (∀ M12 : Mm, M12 = cP M 21 (mP M 600 a0 0) (mP M 600 a0 0) (1 : Int32).toNatClampNeg (0 : Int32).toNatClampNeg (7 : Int32).toNatClampNeg → (mK M12 (mP M12 601 a0 0) = 21 ∧ (mK M12 (mP M12 601 a0 0) = 21 ∧ ((∀ i20 : Nat, i20 < (7 : Int32).toNatClampNeg → mK M12 (mP M12 21 (mP M12 601 a0 0) ((1 : Int32).toNatClampNeg + i20)) = 20) ∧ (∀ M21 : Mm, M21 = cP M12 21 (mP M12 601 a0 0) (mP M12 601 a0 0) (1 : Int32).toNatClampNeg (0 : Int32).toNatClampNeg (7 : Int32).toNatClampNeg → (mK M21 (mP M21 600 a0 0) = 21 ∧ (vp_in 7 8 ∧ (∀ M28 : Mm, M28 = sP M21 21 (mP M21 600 a0 0) (7 : Int32).toNatClampNeg (mP M 21 (mP M 600 a0 0) (0 : Int32).toNatClampNeg) → (mK M28 (mP M28 601 a0 0) = 21 ∧ (vp_in 7 8 ∧ (∀ M35 : Mm, M35 = sP M28 21 (mP M28 601 a0 0) (7 : Int32).toNatClampNeg (mP M 21 (mP M 601 a0 0) (0 : Int32).toNatClampNeg) → (w5_wipe (fun (M40 : Mm) => kb M40 a0 x1 (x2 + 1)) M35 a0 7)))))))))))))))))))))
def w5_scroll_2 (post : Mm → Prop)  : Nat → Mm → Nat → Int32 → Int32 → Prop
  | 0 => fun _ _ _ _ => False
  | n + 1 => b5_scroll_2 post  (w5_scroll_2 post  n)
set_option maxHeartbeats 4000000 in
set_option maxRecDepth 100000 in
theorem r5_scroll_2 {p : Program} {l : Launch} {e : Env} {s : State} {m : MethodId} {args : Array Value} {below : List Frame} {meth : Method} {c : Code} {g : CG} {AD : Nat → Prop} {M0 : Mm} (S : CallFix p m c cX5_scroll 5 s args lw_all RX5) (hr : meth.sig.returnType = none) (hlocks : meth.locks = false) (hK : KC g s) (hA : ∀ q, s.heap.size ≤ q → AD q) {post : Mm → Prop}  : ∀ n : Nat, ∀ (M : Mm) (a0 : Nat) (x1 : Int32) (x2 : Int32), w5_scroll_2 post  n M a0 x1 x2 → Ext M0 M → mK M a0 = 6 → ∀ (H : Heap) (locs : List Loc), HC g AD M H → va_S AD s.heap H locs → ∀ (ls : Array Slot), lv_has ls 5 [(0, .ref a0), (1, .int x1), (2, .int x2)] → W p l e rm5_scroll s m args below meth c H locs 0 0 (MQ below (CQv g AD M0 post) args s 0 0 AD) (F0 m 2 ls []) := by
  have hx := S.1
  have hb := S.2.1
  have hown := S.2.2.2.1
  have hts := S.2.2.2.2
  intro n
  induction n with
  | zero =>
    intro M a0 x1 x2 hw
    exact hw.elim
  | succ n hkb =>
    intro M a0 x1 x2 hw hE hk_a0 H locs hH hS ls hl
    unfold w5_scroll_2 b5_scroll_2 at hw
    refine lv_iload_n hx hb dX5_scroll_2 rfl (lv_at hl 2 rfl) ?_
    refine lv_iload_n hx hb dX5_scroll_3 rfl (lv_at hl 1 rfl) ?_
    refine lv_icmp_ge (tgt := 81) hx hb dX5_scroll_4 (by decide) (fun c1 => ?_) (fun c1 => ?_)
    · have hw := hw.1 c1
      exact co_vret S hr hlocks hH hE hS hw dX5_scroll_81
    · have hw := hw.2 c1
      refine lv_aload_n hx hb dX5_scroll_7 rfl (lv_at hl 0 rfl) ?_
      have hk2 := hw.1
      have hw := hw.2
      refine co_getr S hK hH 5 0 600 (by decide) ⟨by decide, rfl, rfl, rfl⟩ (Or.inl q148) hk_a0 (by rw [hk2]; decide) dX5_scroll_8 ?_
      refine lv_iconst (v := 0) hx hb dX5_scroll_11 (by decide) ?_
      have hin3 := hw.1
      have hw := hw.2
      have hk4 := hw.1
      have hw := hw.2
      refine co_aald S hK hH 1 21 ⟨by decide, rfl, rfl⟩ hk2 hin3 (by rw [hk4]; decide) dX5_scroll_12 ?_
      refine lv_astore_n (lv' := [(3, .ref (mP M 21 (mP M 600 a0 0) (0 : Int32).toNatClampNeg)), (0, .ref a0), (1, .int x1), (2, .int x2)]) hx hb dX5_scroll_13 rfl hl (by decide) rfl (fun ls hl => ?_)
      refine lv_aload_n hx hb dX5_scroll_14 rfl (lv_at hl 1 rfl) ?_
      have hk5 := hw.1
      have hw := hw.2
      refine co_getr S hK hH 5 1 601 (by decide) ⟨by decide, rfl, rfl, rfl⟩ (Or.inl q151) hk_a0 (by rw [hk5]; decide) dX5_scroll_15 ?_
      refine lv_iconst (v := 0) hx hb dX5_scroll_18 (by decide) ?_
      have hin6 := hw.1
      have hw := hw.2
      have hk7 := hw.1
      have hw := hw.2
      refine co_aald S hK hH 1 21 ⟨by decide, rfl, rfl⟩ hk5 hin6 (by rw [hk7]; decide) dX5_scroll_19 ?_
      refine lv_astore (lv' := [(4, .ref (mP M 21 (mP M 601 a0 0) (0 : Int32).toNatClampNeg)), (3, .ref (mP M 21 (mP M 600 a0 0) (0 : Int32).toNatClampNeg)), (0, .ref a0), (1, .int x1), (2, .int x2)]) hx hb dX5_scroll_20 hl (by decide) rfl (fun ls hl => ?_)
      refine lv_aload_n hx hb dX5_scroll_22 rfl (lv_at hl 2 rfl) ?_
      have hk8 := hw.1
      have hw := hw.2
      refine co_getr S hK hH 5 0 600 (by decide) ⟨by decide, rfl, rfl, rfl⟩ (Or.inl q148) hk_a0 (by rw [hk8]; decide) dX5_scroll_23 ?_
      refine lv_iconst (v := 1) hx hb dX5_scroll_26 (by decide) ?_
      refine lv_aload_n hx hb dX5_scroll_27 rfl (lv_at hl 2 rfl) ?_
      have hk9 := hw.1
      have hw := hw.2
      refine co_getr S hK hH 5 0 600 (by decide) ⟨by decide, rfl, rfl, rfl⟩ (Or.inl q148) hk_a0 (by rw [hk9]; decide) dX5_scroll_28 ?_
      refine lv_iconst (v := 0) hx hb dX5_scroll_31 (by decide) ?_
      refine lv_bipush (v := 7) hx hb dX5_scroll_32 (by decide) ?_
      have hg10 := hw.1
      have hw := hw.2
      refine co_copyr S hK hH hS hl.1 1 21 ⟨by decide, rfl, rfl⟩ hk8 hk9 q250 q252 q251 q63 (by decide) (by decide) (by decide) (by decide) (by decide) (fun i h => Or.inl ⟨rfl, hg10 i h⟩) (fun _ => rfl) (Nat.le_of_ble_eq_true rfl) (by decide) dX5_scroll_34 (fun H locs hH hS => ?_)
      obtain ⟨M12, eM12⟩ : ∃ y : Mm, y = cP M 21 (mP M 600 a0 0) (mP M 600 a0 0) (1 : Int32).toNatClampNeg (0 : Int32).toNatClampNeg (7 : Int32).toNatClampNeg := ⟨_, rfl⟩
      have hw := hw M12 eM12
      rw [← eM12] at hH
      have hE13 : Ext M M12 := by rw [eM12]; exact Ext.cP
      have hk14 := hE13.k hk_a0 (by decide)
      have hk15 := hE13.k hk4 (by decide)
      have hk16 := hE13.k hk7 (by decide)
      have hE := hE.tr hE13
      refine lv_aload_n hx hb dX5_scroll_37 rfl (lv_at hl 2 rfl) ?_
      have hk17 := hw.1
      have hw := hw.2
      refine co_getr S hK hH 5 1 601 (by decide) ⟨by decide, rfl, rfl, rfl⟩ (Or.inl q151) hk14 (by rw [hk17]; decide) dX5_scroll_38 ?_
      refine lv_iconst (v := 1) hx hb dX5_scroll_41 (by decide) ?_
      refine lv_aload_n hx hb dX5_scroll_42 rfl (lv_at hl 2 rfl) ?_
      have hk18 := hw.1
      have hw := hw.2
      refine co_getr S hK hH 5 1 601 (by decide) ⟨by decide, rfl, rfl, rfl⟩ (Or.inl q151) hk14 (by rw [hk18]; decide) dX5_scroll_43 ?_
      refine lv_iconst (v := 0) hx hb dX5_scroll_46 (by decide) ?_
      refine lv_bipush (v := 7) hx hb dX5_scroll_47 (by decide) ?_
      have hg19 := hw.1
      have hw := hw.2
      refine co_copyr S hK hH hS hl.1 1 21 ⟨by decide, rfl, rfl⟩ hk17 hk18 q250 q252 q251 q63 (by decide) (by decide) (by decide) (by decide) (by decide) (fun i h => Or.inl ⟨rfl, hg19 i h⟩) (fun _ => rfl) (Nat.le_of_ble_eq_true rfl) (by decide) dX5_scroll_49 (fun H locs hH hS => ?_)
      obtain ⟨M21, eM21⟩ : ∃ y : Mm, y = cP M12 21 (mP M12 601 a0 0) (mP M12 601 a0 0) (1 : Int32).toNatClampNeg (0 : Int32).toNatClampNeg (7 : Int32).toNatClampNeg := ⟨_, rfl⟩
      have hw := hw M21 eM21
      rw [← eM21] at hH
      have hE22 : Ext M12 M21 := by rw [eM21]; exact Ext.cP
      have hk23 := hE22.k hk14 (by decide)
      have hk24 := hE22.k hk15 (by decide)
      have hk25 := hE22.k hk16 (by decide)
      have hE := hE.tr hE22
      refine lv_aload_n hx hb dX5_scroll_52 rfl (lv_at hl 2 rfl) ?_
      have hk26 := hw.1
      have hw := hw.2
      refine co_getr S hK hH 5 0 600 (by decide) ⟨by decide, rfl, rfl, rfl⟩ (Or.inl q148) hk23 (by rw [hk26]; decide) dX5_scroll_53 ?_
      refine lv_bipush (v := 7) hx hb dX5_scroll_56 (by decide) ?_
      refine lv_aload_n hx hb dX5_scroll_58 rfl (lv_at hl 1 rfl) ?_
      have hin27 := hw.1
      have hw := hw.2
      refine co_aast S hK hH hS 1 21 ⟨by decide, rfl, rfl⟩ hk26 (Or.inl ⟨rfl, hk24⟩) hin27 dX5_scroll_59 (fun H locs hH hS => ?_)
      obtain ⟨M28, eM28⟩ : ∃ y : Mm, y = sP M21 21 (mP M21 600 a0 0) (7 : Int32).toNatClampNeg (mP M 21 (mP M 600 a0 0) (0 : Int32).toNatClampNeg) := ⟨_, rfl⟩
      have hw := hw M28 eM28
      rw [← eM28] at hH
      have hE29 : Ext M21 M28 := by rw [eM28]; exact Ext.sP
      have hk30 := hE29.k hk23 (by decide)
      have hk31 := hE29.k hk24 (by decide)
      have hk32 := hE29.k hk25 (by decide)
      have hE := hE.tr hE29
      refine lv_aload_n hx hb dX5_scroll_60 rfl (lv_at hl 2 rfl) ?_
      have hk33 := hw.1
      have hw := hw.2
      refine co_getr S hK hH 5 1 601 (by decide) ⟨by decide, rfl, rfl, rfl⟩ (Or.inl q151) hk30 (by rw [hk33]; decide) dX5_scroll_61 ?_
      refine lv_bipush (v := 7) hx hb dX5_scroll_64 (by decide) ?_
      refine lv_aload hx hb dX5_scroll_66 (lv_at hl 0 rfl) ?_
      have hin34 := hw.1
      have hw := hw.2
      refine co_aast S hK hH hS 1 21 ⟨by decide, rfl, rfl⟩ hk33 (Or.inl ⟨rfl, hk32⟩) hin34 dX5_scroll_68 (fun H locs hH hS => ?_)
      obtain ⟨M35, eM35⟩ : ∃ y : Mm, y = sP M28 21 (mP M28 601 a0 0) (7 : Int32).toNatClampNeg (mP M 21 (mP M 601 a0 0) (0 : Int32).toNatClampNeg) := ⟨_, rfl⟩
      have hw := hw M35 eM35
      rw [← eM35] at hH
      have hE36 : Ext M28 M35 := by rw [eM35]; exact Ext.sP
      have hk37 := hE36.k hk30 (by decide)
      have hk38 := hE36.k hk31 (by decide)
      have hk39 := hE36.k hk32 (by decide)
      have hE := hE.tr hE36
      refine lv_aload_n hx hb dX5_scroll_69 rfl (lv_at hl 2 rfl) ?_
      refine lv_bipush (v := 7) hx hb dX5_scroll_70 (by decide) ?_
      refine co_callv (va_runV (As := [.int 7]) (rest := []) S (m5_wipe l g AD M35 a0 7 _ hk37 hw) (cwV 1 hts (lw_V q140 q141 q142 q59 q143) rfl rfl rfl (by decide +kernel) ⟨Nat.le_of_ble_eq_true rfl, Nat.le_of_ble_eq_true rfl⟩) ⟨co_blind, co_recv hK hH (c := 5) (by decide) hk37, co_pre hK hH hA hS⟩ rfl rfl hl.1 rfl (lv_room (Nat.le_of_ble_eq_true rfl)) dX5_scroll_72 ⟨Nat.le_refl _, Nat.le_refl _⟩) hS (fun M40 H locs hw hH hE42 hS => ?_)
      have hk44 := hE42.k hk37 (by decide)
      have hk45 := hE42.k hk38 (by decide)
      have hk46 := hE42.k hk39 (by decide)
      have hE := hE.tr hE42
      refine lv_iinc (v := x2 + 1) (lv' := [(2, .int (x2 + 1)), (4, .ref (mP M 21 (mP M 601 a0 0) (0 : Int32).toNatClampNeg)), (3, .ref (mP M 21 (mP M 600 a0 0) (0 : Int32).toNatClampNeg)), (0, .ref a0), (1, .int x1)]) hx hb dX5_scroll_75 hl (k := 4) rfl rfl (by decide) rfl (fun ls hl => ?_)
      refine lv_goto (tgt := 2) hx hb dX5_scroll_78 (by decide) ?_
      exact hkb _ _ _ _ hw hE hk44 _ _ hH hS _ (lv_sub hl [3, 4, 0] rfl)
def w5_scroll (post : Mm → Prop) (M : Mm) (a0 : Nat) (x1 : Int32) : Prop :=
  ∃ n, w5_scroll_2 post  n M a0 x1 0
set_option maxHeartbeats 4000000 in
set_option maxRecDepth 100000 in
theorem m5_scroll (l : Launch) (g : CG) (AD : Nat → Prop) (M : Mm) (a0 : Nat) (x1 : Int32) (post : Mm → Prop) (hk_a0 : mK M a0 = 6) (hw : w5_scroll post M a0 x1) : Met l yX5_scroll (ws_ yX5_scroll cX5_scroll 5 none) rm5_scroll (CPc g AD M [.ref a0, .int x1]) (CQv g AD M post) 0 0 AD := by
  refine Met.ofW (cc := cX5_scroll) (maxL := 5) (ret := none) (by decide) rfl ?_
  intro p e s m args below meth c s₁ B hml hv
  obtain ⟨rfl, hK, hH, hA⟩ := hv
  have hx := B.exec
  have hb := B.bytes
  have hr : meth.sig.returnType = none := B.returns
  have hts := atoms_spec (ws := ws_ yX5_scroll cX5_scroll 5 none) B.pre
  have hts : ∀ w ∈ lw_all, w.before _ s = true := fun w h => hts w (List.mem_cons_of_mem _ h)
  have hown : s.vm.findClass RX5 = some m.cls := findClass_of_methodNamed B.named
  have hlocks : meth.locks = false := B.notSynchronized
  have S : CallFix p m c cX5_scroll 5 s _ lw_all RX5 := ⟨hx, hb, hml, hown, hts⟩
  have hS : va_S AD s.heap s.heap [] := va_S.rf
  have hE : Ext M M := Ext.rf
  have hl := lv_entry ([.ref a0, .int x1]) (n := 5) (Nat.le_of_ble_eq_true rfl)
  rw [lg_entry_eq]
  generalize (lg_sl ([.ref a0, .int x1]) ++ List.replicate (5 - (lg_sl ([.ref a0, .int x1])).length) Slot.unset).toArray = ls at hl ⊢
  have hl : lv_has ls 5 [(0, .ref a0), (1, .int x1)] := hl
  unfold w5_scroll at hw
  refine lv_iconst (v := 0) hx hb dX5_scroll_0 (by decide) ?_
  refine lv_istore_n (lv' := [(2, .int 0), (0, .ref a0), (1, .int x1)]) hx hb dX5_scroll_1 rfl hl (by decide) rfl (fun ls hl => ?_)
  obtain ⟨n, hw⟩ := hw
  refine r5_scroll_2 S hr hlocks hK hA  n _ _ _ _ hw hE hk_a0 _ _ hH hS _ (lv_sub hl [1, 2, 0] rfl)
/-! FarTypewriter$Screen.newLine()V -/
abbrev rm5_newLine : Room := { frames := 3, cells := 0, slots := 0, locals := 224 }
def w5_newLine (post : Mm → Prop) (M : Mm) (a0 : Nat) : Prop :=
  ∀ M1 : Mm, M1 = sI M 603 a0 0 0 → ((8 ≤ ((mI M1 602 a0 0) + 1) → w5_scroll (fun (M5 : Mm) => post M5) M1 a0 1) ∧ (¬ 8 ≤ ((mI M1 602 a0 0) + 1) → ∀ M10 : Mm, M10 = sI M1 602 a0 0 ((mI M1 602 a0 0) + 1) → (post M10)))
set_option maxHeartbeats 4000000 in
set_option maxRecDepth 100000 in
theorem m5_newLine (l : Launch) (g : CG) (AD : Nat → Prop) (M : Mm) (a0 : Nat) (post : Mm → Prop) (hk_a0 : mK M a0 = 6) (hw : w5_newLine post M a0) : Met l yX5_newLine (ws_ yX5_newLine cX5_newLine 1 none) rm5_newLine (CPc g AD M [.ref a0]) (CQv g AD M post) 0 0 AD := by
  refine Met.ofW (cc := cX5_newLine) (maxL := 1) (ret := none) (by decide) rfl ?_
  intro p e s m args below meth c s₁ B hml hv
  obtain ⟨rfl, hK, hH, hA⟩ := hv
  have hx := B.exec
  have hb := B.bytes
  have hr : meth.sig.returnType = none := B.returns
  have hts := atoms_spec (ws := ws_ yX5_newLine cX5_newLine 1 none) B.pre
  have hts : ∀ w ∈ lw_all, w.before _ s = true := fun w h => hts w (List.mem_cons_of_mem _ h)
  have hown : s.vm.findClass RX5 = some m.cls := findClass_of_methodNamed B.named
  have hlocks : meth.locks = false := B.notSynchronized
  have S : CallFix p m c cX5_newLine 1 s _ lw_all RX5 := ⟨hx, hb, hml, hown, hts⟩
  have hS : va_S AD s.heap s.heap [] := va_S.rf
  have hE : Ext M M := Ext.rf
  have hl := lv_entry ([.ref a0]) (n := 1) (Nat.le_of_ble_eq_true rfl)
  rw [lg_entry_eq]
  generalize (lg_sl ([.ref a0]) ++ List.replicate (1 - (lg_sl ([.ref a0])).length) Slot.unset).toArray = ls at hl ⊢
  have hl : lv_has ls 1 [(0, .ref a0)] := hl
  unfold w5_newLine at hw
  refine lv_aload_n hx hb dX5_newLine_0 rfl (lv_at hl 0 rfl) ?_
  refine lv_iconst (v := 0) hx hb dX5_newLine_1 (by decide) ?_
  refine co_puti S hK hH hS 5 3 603 (by decide) ⟨by decide, rfl, rfl, rfl, rfl⟩ (Or.inl q159) hk_a0 ⟨rfl, rfl⟩ dX5_newLine_2 (fun H locs hH hS => ?_)
  obtain ⟨M1, eM1⟩ : ∃ y : Mm, y = sI M 603 a0 0 0 := ⟨_, rfl⟩
  have hw := hw M1 eM1
  rw [← eM1] at hH
  have hE2 : Ext M M1 := by rw [eM1]; exact Ext.sI
  have hk3 := hE2.k hk_a0 (by decide)
  have hE := hE.tr hE2
  refine lv_aload_n hx hb dX5_newLine_5 rfl (lv_at hl 0 rfl) ?_
  refine co_geti S hK hH 5 2 602 (by decide) ⟨by decide, rfl, rfl, rfl⟩ (Or.inl q154) hk3 dX5_newLine_6 ?_
  refine lv_iconst (v := 1) hx hb dX5_newLine_9 (by decide) ?_
  refine lv_iadd hx hb dX5_newLine_10 ?_
  refine lv_bipush (v := 8) hx hb dX5_newLine_11 (by decide) ?_
  refine lv_icmp_ge (tgt := 29) hx hb dX5_newLine_13 (by decide) (fun c4 => ?_) (fun c4 => ?_)
  · have hw := hw.1 c4
    refine lv_aload_n hx hb dX5_newLine_29 rfl (lv_at hl 0 rfl) ?_
    refine lv_iconst (v := 1) hx hb dX5_newLine_30 (by decide) ?_
    refine co_callv (va_runV (As := [.int 1]) (rest := []) S (m5_scroll l g AD M1 a0 1 _ hk3 hw) (cwV 1 hts (lw_V q411 q412 q413 q59 q414) rfl rfl rfl (by decide +kernel) ⟨Nat.le_of_ble_eq_true rfl, Nat.le_of_ble_eq_true rfl⟩) ⟨co_blind, co_recv hK hH (c := 5) (by decide) hk3, co_pre hK hH hA hS⟩ rfl rfl hl.1 rfl (lv_room (Nat.le_of_ble_eq_true rfl)) dX5_newLine_31 ⟨Nat.le_refl _, Nat.le_refl _⟩) hS (fun M5 H locs hw hH hE7 hS => ?_)
    have hk9 := hE7.k hk3 (by decide)
    have hE := hE.tr hE7
    exact co_vret S hr hlocks hH hE hS hw dX5_newLine_34
  · have hw := hw.2 c4
    refine lv_aload_n hx hb dX5_newLine_16 rfl (lv_at hl 0 rfl) ?_
    refine lv_dup hx hb dX5_newLine_17 rfl ?_
    refine co_geti S hK hH 5 2 602 (by decide) ⟨by decide, rfl, rfl, rfl⟩ (Or.inl q154) hk3 dX5_newLine_18 ?_
    refine lv_iconst (v := 1) hx hb dX5_newLine_21 (by decide) ?_
    refine lv_iadd hx hb dX5_newLine_22 ?_
    refine co_puti S hK hH hS 5 2 602 (by decide) ⟨by decide, rfl, rfl, rfl, rfl⟩ (Or.inl q154) hk3 ⟨rfl, rfl⟩ dX5_newLine_23 (fun H locs hH hS => ?_)
    obtain ⟨M10, eM10⟩ : ∃ y : Mm, y = sI M1 602 a0 0 ((mI M1 602 a0 0) + 1) := ⟨_, rfl⟩
    have hw := hw M10 eM10
    rw [← eM10] at hH
    have hE11 : Ext M1 M10 := by rw [eM10]; exact Ext.sI
    have hk12 := hE11.k hk3 (by decide)
    have hE := hE.tr hE11
    refine lv_goto (tgt := 34) hx hb dX5_newLine_26 (by decide) ?_
    exact co_vret S hr hlocks hH hE hS hw dX5_newLine_34
/-! FarTypewriter$Screen.letter(II)V -/
abbrev rm5_letter : Room := { frames := 4, cells := 0, slots := 0, locals := 244 }
def w5_letter (post : Mm → Prop) (M : Mm) (a0 : Nat) (x1 : Int32) (x2 : Int32) : Prop :=
  w5_put (fun (M1 : Mm) => (24 ≤ ((mI M1 603 a0 0) + 1) → w5_newLine (fun (M7 : Mm) => post M7) M1 a0) ∧ (¬ 24 ≤ ((mI M1 603 a0 0) + 1) → ∀ M12 : Mm, M12 = sI M1 603 a0 0 ((mI M1 603 a0 0) + 1) → (post M12))) M a0 (mI M 602 a0 0) (mI M 603 a0 0) x1 x2
set_option maxHeartbeats 4000000 in
set_option maxRecDepth 100000 in
theorem m5_letter (l : Launch) (g : CG) (AD : Nat → Prop) (M : Mm) (a0 : Nat) (x1 : Int32) (x2 : Int32) (post : Mm → Prop) (hk_a0 : mK M a0 = 6) (hw : w5_letter post M a0 x1 x2) : Met l yX5_letter (ws_ yX5_letter cX5_letter 3 none) rm5_letter (CPc g AD M [.ref a0, .int x1, .int x2]) (CQv g AD M post) 0 0 AD := by
  refine Met.ofW (cc := cX5_letter) (maxL := 3) (ret := none) (by decide) rfl ?_
  intro p e s m args below meth c s₁ B hml hv
  obtain ⟨rfl, hK, hH, hA⟩ := hv
  have hx := B.exec
  have hb := B.bytes
  have hr : meth.sig.returnType = none := B.returns
  have hts := atoms_spec (ws := ws_ yX5_letter cX5_letter 3 none) B.pre
  have hts : ∀ w ∈ lw_all, w.before _ s = true := fun w h => hts w (List.mem_cons_of_mem _ h)
  have hown : s.vm.findClass RX5 = some m.cls := findClass_of_methodNamed B.named
  have hlocks : meth.locks = false := B.notSynchronized
  have S : CallFix p m c cX5_letter 3 s _ lw_all RX5 := ⟨hx, hb, hml, hown, hts⟩
  have hS : va_S AD s.heap s.heap [] := va_S.rf
  have hE : Ext M M := Ext.rf
  have hl := lv_entry ([.ref a0, .int x1, .int x2]) (n := 3) (Nat.le_of_ble_eq_true rfl)
  rw [lg_entry_eq]
  generalize (lg_sl ([.ref a0, .int x1, .int x2]) ++ List.replicate (3 - (lg_sl ([.ref a0, .int x1, .int x2])).length) Slot.unset).toArray = ls at hl ⊢
  have hl : lv_has ls 3 [(0, .ref a0), (1, .int x1), (2, .int x2)] := hl
  unfold w5_letter at hw
  refine lv_aload_n hx hb dX5_letter_0 rfl (lv_at hl 0 rfl) ?_
  refine lv_aload_n hx hb dX5_letter_1 rfl (lv_at hl 0 rfl) ?_
  refine co_geti S hK hH 5 2 602 (by decide) ⟨by decide, rfl, rfl, rfl⟩ (Or.inl q154) hk_a0 dX5_letter_2 ?_
  refine lv_aload_n hx hb dX5_letter_5 rfl (lv_at hl 0 rfl) ?_
  refine co_geti S hK hH 5 3 603 (by decide) ⟨by decide, rfl, rfl, rfl⟩ (Or.inl q159) hk_a0 dX5_letter_6 ?_
  refine lv_iload_n hx hb dX5_letter_9 rfl (lv_at hl 1 rfl) ?_
  refine lv_iload_n hx hb dX5_letter_10 rfl (lv_at hl 2 rfl) ?_
  refine co_callv (va_runV (As := [.int (mI M 602 a0 0), .int (mI M 603 a0 0), .int x1, .int x2]) (rest := []) S (m5_put l g AD M a0 (mI M 602 a0 0) (mI M 603 a0 0) x1 x2 _ hk_a0 hw) (cwV 4 hts (lw_V q144 q145 q146 q59 q147) rfl rfl rfl (by decide +kernel) ⟨Nat.le_of_ble_eq_true rfl, Nat.le_of_ble_eq_true rfl⟩) ⟨co_blind, co_recv hK hH (c := 5) (by decide) hk_a0, co_pre hK hH hA hS⟩ rfl rfl hl.1 rfl (lv_room (Nat.le_of_ble_eq_true rfl)) dX5_letter_11 ⟨Nat.le_refl _, Nat.le_refl _⟩) hS (fun M1 H locs hw hH hE3 hS => ?_)
  have hk5 := hE3.k hk_a0 (by decide)
  have hE := hE.tr hE3
  refine lv_aload_n hx hb dX5_letter_14 rfl (lv_at hl 0 rfl) ?_
  refine co_geti S hK hH 5 3 603 (by decide) ⟨by decide, rfl, rfl, rfl⟩ (Or.inl q159) hk5 dX5_letter_15 ?_
  refine lv_iconst (v := 1) hx hb dX5_letter_18 (by decide) ?_
  refine lv_iadd hx hb dX5_letter_19 ?_
  refine lv_bipush (v := 24) hx hb dX5_letter_20 (by decide) ?_
  refine lv_icmp_ge (tgt := 38) hx hb dX5_letter_22 (by decide) (fun c6 => ?_) (fun c6 => ?_)
  · have hw := hw.1 c6
    refine lv_aload_n hx hb dX5_letter_38 rfl (lv_at hl 0 rfl) ?_
    refine co_callv (va_runV (As := []) (rest := []) S (m5_newLine l g AD M1 a0 _ hk5 hw) (cwV 0 hts (lw_V q407 q408 q409 q59 q410) rfl rfl rfl (by decide +kernel) ⟨Nat.le_of_ble_eq_true rfl, Nat.le_of_ble_eq_true rfl⟩) ⟨co_blind, co_recv hK hH (c := 5) (by decide) hk5, co_pre hK hH hA hS⟩ rfl rfl hl.1 rfl (lv_room (Nat.le_of_ble_eq_true rfl)) dX5_letter_39 ⟨Nat.le_refl _, Nat.le_refl _⟩) hS (fun M7 H locs hw hH hE9 hS => ?_)
    have hk11 := hE9.k hk5 (by decide)
    have hE := hE.tr hE9
    exact co_vret S hr hlocks hH hE hS hw dX5_letter_42
  · have hw := hw.2 c6
    refine lv_aload_n hx hb dX5_letter_25 rfl (lv_at hl 0 rfl) ?_
    refine lv_dup hx hb dX5_letter_26 rfl ?_
    refine co_geti S hK hH 5 3 603 (by decide) ⟨by decide, rfl, rfl, rfl⟩ (Or.inl q159) hk5 dX5_letter_27 ?_
    refine lv_iconst (v := 1) hx hb dX5_letter_30 (by decide) ?_
    refine lv_iadd hx hb dX5_letter_31 ?_
    refine co_puti S hK hH hS 5 3 603 (by decide) ⟨by decide, rfl, rfl, rfl, rfl⟩ (Or.inl q159) hk5 ⟨rfl, rfl⟩ dX5_letter_32 (fun H locs hH hS => ?_)
    obtain ⟨M12, eM12⟩ : ∃ y : Mm, y = sI M1 603 a0 0 ((mI M1 603 a0 0) + 1) := ⟨_, rfl⟩
    have hw := hw M12 eM12
    rw [← eM12] at hH
    have hE13 : Ext M1 M12 := by rw [eM12]; exact Ext.sI
    have hk14 := hE13.k hk5 (by decide)
    have hE := hE.tr hE13
    refine lv_goto (tgt := 42) hx hb dX5_letter_35 (by decide) ?_
    exact co_vret S hr hlocks hH hE hS hw dX5_letter_42
/-! FarTypewriter$Echo.takes(ILFarTypewriter$Screen;I)V -/
abbrev rm7_takes : Room := { frames := 5, cells := 0, slots := 0, locals := 266 }
def w7_takes (post : Mm → Prop) (M : Mm) (a0 : Nat) (x1 : Int32) (a2 : Nat) (x3 : Int32) : Prop :=
  (x1 = 1 → w5_steps (fun (M1 : Mm) => post M1) M a2 (-1) 0) ∧ (x1 = 2 → w5_steps (fun (M6 : Mm) => post M6) M a2 1 0) ∧ (x1 = 3 → w5_steps (fun (M11 : Mm) => post M11) M a2 0 1) ∧ (x1 = 4 → w5_steps (fun (M16 : Mm) => post M16) M a2 0 (-1)) ∧ (x1 = 8 → w5_back (fun (M21 : Mm) => post M21) M a2) ∧ (x1 = 13 → w5_newLine (fun (M26 : Mm) => post M26) M a2) ∧ (¬ x1 = 1 → ¬ x1 = 2 → ¬ x1 = 3 → ¬ x1 = 4 → ¬ x1 = 8 → ¬ x1 = 13 → w5_letter (fun (M31 : Mm) => post M31) M a2 x1 x3)
set_option maxHeartbeats 4000000 in
set_option maxRecDepth 100000 in
theorem m7_takes (l : Launch) (g : CG) (AD : Nat → Prop) (M : Mm) (a0 : Nat) (x1 : Int32) (a2 : Nat) (x3 : Int32) (post : Mm → Prop) (hk_a2 : mK M a2 = 6) (hw : w7_takes post M a0 x1 a2 x3) : Met l yX7_takes (ws_ yX7_takes cX7_takes 4 none) rm7_takes (CPc g AD M [.ref a0, .int x1, .ref a2, .int x3]) (CQv g AD M post) 0 0 AD := by
  refine Met.ofW (cc := cX7_takes) (maxL := 4) (ret := none) (by decide) rfl ?_
  intro p e s m args below meth c s₁ B hml hv
  obtain ⟨rfl, hK, hH, hA⟩ := hv
  have hx := B.exec
  have hb := B.bytes
  have hr : meth.sig.returnType = none := B.returns
  have hts := atoms_spec (ws := ws_ yX7_takes cX7_takes 4 none) B.pre
  have hts : ∀ w ∈ lw_all, w.before _ s = true := fun w h => hts w (List.mem_cons_of_mem _ h)
  have hown : s.vm.findClass RX7 = some m.cls := findClass_of_methodNamed B.named
  have hlocks : meth.locks = false := B.notSynchronized
  have S : CallFix p m c cX7_takes 4 s _ lw_all RX7 := ⟨hx, hb, hml, hown, hts⟩
  have hS : va_S AD s.heap s.heap [] := va_S.rf
  have hE : Ext M M := Ext.rf
  have hl := lv_entry ([.ref a0, .int x1, .ref a2, .int x3]) (n := 4) (Nat.le_of_ble_eq_true rfl)
  rw [lg_entry_eq]
  generalize (lg_sl ([.ref a0, .int x1, .ref a2, .int x3]) ++ List.replicate (4 - (lg_sl ([.ref a0, .int x1, .ref a2, .int x3])).length) Slot.unset).toArray = ls at hl ⊢
  have hl : lv_has ls 4 [(0, .ref a0), (1, .int x1), (2, .ref a2), (3, .int x3)] := hl
  unfold w7_takes at hw
  refine lv_iload_n hx hb dX7_takes_0 rfl (lv_at hl 1 rfl) ?_
  by_cases cs1 : x1 = 1
  · have hw := hw.1 cs1
    refine lv_tableIn (off := 67) (tgt := 68) hx hb dX7_takes_1 (by rw [cs1]; decide) (by rw [cs1]; decide) (by rw [cs1]; decide) (by decide) ?_
    refine lv_aload_n hx hb dX7_takes_68 rfl (lv_at hl 2 rfl) ?_
    refine lv_iconst (v := (-1)) hx hb dX7_takes_69 (by decide) ?_
    refine lv_iconst (v := 0) hx hb dX7_takes_70 (by decide) ?_
    refine co_callv (va_runV (As := [.int (-1), .int 0]) (rest := []) S (m5_steps l g AD M a2 (-1) 0 _ hk_a2 hw) (cwV 2 hts (lw_V q651 q652 q653 q59 q654) rfl rfl rfl (by decide +kernel) ⟨Nat.le_of_ble_eq_true rfl, Nat.le_of_ble_eq_true rfl⟩) ⟨co_blind, co_recv hK hH (c := 5) (by decide) hk_a2, co_pre hK hH hA hS⟩ rfl rfl hl.1 rfl (lv_room (Nat.le_of_ble_eq_true rfl)) dX7_takes_71 ⟨Nat.le_refl _, Nat.le_refl _⟩) hS (fun M1 H locs hw hH hE3 hS => ?_)
    have hk5 := hE3.k hk_a2 (by decide)
    have hE := hE.tr hE3
    refine lv_goto (tgt := 124) hx hb dX7_takes_74 (by decide) ?_
    exact co_vret S hr hlocks hH hE hS hw dX7_takes_124
  by_cases cs2 : x1 = 2
  · have hw := hw.2.1 cs2
    refine lv_tableIn (off := 76) (tgt := 77) hx hb dX7_takes_1 (by rw [cs2]; decide) (by rw [cs2]; decide) (by rw [cs2]; decide) (by decide) ?_
    refine lv_aload_n hx hb dX7_takes_77 rfl (lv_at hl 2 rfl) ?_
    refine lv_iconst (v := 1) hx hb dX7_takes_78 (by decide) ?_
    refine lv_iconst (v := 0) hx hb dX7_takes_79 (by decide) ?_
    refine co_callv (va_runV (As := [.int 1, .int 0]) (rest := []) S (m5_steps l g AD M a2 1 0 _ hk_a2 hw) (cwV 2 hts (lw_V q651 q652 q653 q59 q654) rfl rfl rfl (by decide +kernel) ⟨Nat.le_of_ble_eq_true rfl, Nat.le_of_ble_eq_true rfl⟩) ⟨co_blind, co_recv hK hH (c := 5) (by decide) hk_a2, co_pre hK hH hA hS⟩ rfl rfl hl.1 rfl (lv_room (Nat.le_of_ble_eq_true rfl)) dX7_takes_80 ⟨Nat.le_refl _, Nat.le_refl _⟩) hS (fun M6 H locs hw hH hE8 hS => ?_)
    have hk10 := hE8.k hk_a2 (by decide)
    have hE := hE.tr hE8
    refine lv_goto (tgt := 124) hx hb dX7_takes_83 (by decide) ?_
    exact co_vret S hr hlocks hH hE hS hw dX7_takes_124
  by_cases cs3 : x1 = 3
  · have hw := hw.2.2.1 cs3
    refine lv_tableIn (off := 85) (tgt := 86) hx hb dX7_takes_1 (by rw [cs3]; decide) (by rw [cs3]; decide) (by rw [cs3]; decide) (by decide) ?_
    refine lv_aload_n hx hb dX7_takes_86 rfl (lv_at hl 2 rfl) ?_
    refine lv_iconst (v := 0) hx hb dX7_takes_87 (by decide) ?_
    refine lv_iconst (v := 1) hx hb dX7_takes_88 (by decide) ?_
    refine co_callv (va_runV (As := [.int 0, .int 1]) (rest := []) S (m5_steps l g AD M a2 0 1 _ hk_a2 hw) (cwV 2 hts (lw_V q651 q652 q653 q59 q654) rfl rfl rfl (by decide +kernel) ⟨Nat.le_of_ble_eq_true rfl, Nat.le_of_ble_eq_true rfl⟩) ⟨co_blind, co_recv hK hH (c := 5) (by decide) hk_a2, co_pre hK hH hA hS⟩ rfl rfl hl.1 rfl (lv_room (Nat.le_of_ble_eq_true rfl)) dX7_takes_89 ⟨Nat.le_refl _, Nat.le_refl _⟩) hS (fun M11 H locs hw hH hE13 hS => ?_)
    have hk15 := hE13.k hk_a2 (by decide)
    have hE := hE.tr hE13
    refine lv_goto (tgt := 124) hx hb dX7_takes_92 (by decide) ?_
    exact co_vret S hr hlocks hH hE hS hw dX7_takes_124
  by_cases cs4 : x1 = 4
  · have hw := hw.2.2.2.1 cs4
    refine lv_tableIn (off := 94) (tgt := 95) hx hb dX7_takes_1 (by rw [cs4]; decide) (by rw [cs4]; decide) (by rw [cs4]; decide) (by decide) ?_
    refine lv_aload_n hx hb dX7_takes_95 rfl (lv_at hl 2 rfl) ?_
    refine lv_iconst (v := 0) hx hb dX7_takes_96 (by decide) ?_
    refine lv_iconst (v := (-1)) hx hb dX7_takes_97 (by decide) ?_
    refine co_callv (va_runV (As := [.int 0, .int (-1)]) (rest := []) S (m5_steps l g AD M a2 0 (-1) _ hk_a2 hw) (cwV 2 hts (lw_V q651 q652 q653 q59 q654) rfl rfl rfl (by decide +kernel) ⟨Nat.le_of_ble_eq_true rfl, Nat.le_of_ble_eq_true rfl⟩) ⟨co_blind, co_recv hK hH (c := 5) (by decide) hk_a2, co_pre hK hH hA hS⟩ rfl rfl hl.1 rfl (lv_room (Nat.le_of_ble_eq_true rfl)) dX7_takes_98 ⟨Nat.le_refl _, Nat.le_refl _⟩) hS (fun M16 H locs hw hH hE18 hS => ?_)
    have hk20 := hE18.k hk_a2 (by decide)
    have hE := hE.tr hE18
    refine lv_goto (tgt := 124) hx hb dX7_takes_101 (by decide) ?_
    exact co_vret S hr hlocks hH hE hS hw dX7_takes_124
  by_cases cs8 : x1 = 8
  · have hw := hw.2.2.2.2.1 cs8
    refine lv_tableIn (off := 103) (tgt := 104) hx hb dX7_takes_1 (by rw [cs8]; decide) (by rw [cs8]; decide) (by rw [cs8]; decide) (by decide) ?_
    refine lv_aload_n hx hb dX7_takes_104 rfl (lv_at hl 2 rfl) ?_
    refine co_callv (va_runV (As := []) (rest := []) S (m5_back l g AD M a2 _ hk_a2 hw) (cwV 0 hts (lw_V q656 q417 q418 q59 q419) rfl rfl rfl (by decide +kernel) ⟨Nat.le_of_ble_eq_true rfl, Nat.le_of_ble_eq_true rfl⟩) ⟨co_blind, co_recv hK hH (c := 5) (by decide) hk_a2, co_pre hK hH hA hS⟩ rfl rfl hl.1 rfl (lv_room (Nat.le_of_ble_eq_true rfl)) dX7_takes_105 ⟨Nat.le_refl _, Nat.le_refl _⟩) hS (fun M21 H locs hw hH hE23 hS => ?_)
    have hk25 := hE23.k hk_a2 (by decide)
    have hE := hE.tr hE23
    refine lv_goto (tgt := 124) hx hb dX7_takes_108 (by decide) ?_
    exact co_vret S hr hlocks hH hE hS hw dX7_takes_124
  by_cases cs13 : x1 = 13
  · have hw := hw.2.2.2.2.2.1 cs13
    refine lv_tableIn (off := 110) (tgt := 111) hx hb dX7_takes_1 (by rw [cs13]; decide) (by rw [cs13]; decide) (by rw [cs13]; decide) (by decide) ?_
    refine lv_aload_n hx hb dX7_takes_111 rfl (lv_at hl 2 rfl) ?_
    refine co_callv (va_runV (As := []) (rest := []) S (m5_newLine l g AD M a2 _ hk_a2 hw) (cwV 0 hts (lw_V q657 q408 q409 q59 q410) rfl rfl rfl (by decide +kernel) ⟨Nat.le_of_ble_eq_true rfl, Nat.le_of_ble_eq_true rfl⟩) ⟨co_blind, co_recv hK hH (c := 5) (by decide) hk_a2, co_pre hK hH hA hS⟩ rfl rfl hl.1 rfl (lv_room (Nat.le_of_ble_eq_true rfl)) dX7_takes_112 ⟨Nat.le_refl _, Nat.le_refl _⟩) hS (fun M26 H locs hw hH hE28 hS => ?_)
    have hk30 := hE28.k hk_a2 (by decide)
    have hE := hE.tr hE28
    refine lv_goto (tgt := 124) hx hb dX7_takes_115 (by decide) ?_
    exact co_vret S hr hlocks hH hE hS hw dX7_takes_124
  have hw := hw.2.2.2.2.2.2 cs1 cs2 cs3 cs4 cs8 cs13
  by_cases cs5 : x1 = 5
  · refine lv_tableIn (off := 117) (tgt := 118) hx hb dX7_takes_1 (by rw [cs5]; decide) (by rw [cs5]; decide) (by rw [cs5]; decide) (by decide) ?_
    refine lv_aload_n hx hb dX7_takes_118 rfl (lv_at hl 2 rfl) ?_
    refine lv_iload_n hx hb dX7_takes_119 rfl (lv_at hl 1 rfl) ?_
    refine lv_iload_n hx hb dX7_takes_120 rfl (lv_at hl 3 rfl) ?_
    refine co_callv (va_runV (As := [.int x1, .int x3]) (rest := []) S (m5_letter l g AD M a2 x1 x3 _ hk_a2 hw) (cwV 2 hts (lw_V q658 q404 q405 q59 q406) rfl rfl rfl (by decide +kernel) ⟨Nat.le_of_ble_eq_true rfl, Nat.le_of_ble_eq_true rfl⟩) ⟨co_blind, co_recv hK hH (c := 5) (by decide) hk_a2, co_pre hK hH hA hS⟩ rfl rfl hl.1 rfl (lv_room (Nat.le_of_ble_eq_true rfl)) dX7_takes_121 ⟨Nat.le_refl _, Nat.le_refl _⟩) hS (fun M31 H locs hw hH hE33 hS => ?_)
    have hk35 := hE33.k hk_a2 (by decide)
    have hE := hE.tr hE33
    exact co_vret S hr hlocks hH hE hS hw dX7_takes_124
  by_cases cs6 : x1 = 6
  · refine lv_tableIn (off := 117) (tgt := 118) hx hb dX7_takes_1 (by rw [cs6]; decide) (by rw [cs6]; decide) (by rw [cs6]; decide) (by decide) ?_
    refine lv_aload_n hx hb dX7_takes_118 rfl (lv_at hl 2 rfl) ?_
    refine lv_iload_n hx hb dX7_takes_119 rfl (lv_at hl 1 rfl) ?_
    refine lv_iload_n hx hb dX7_takes_120 rfl (lv_at hl 3 rfl) ?_
    refine co_callv (va_runV (As := [.int x1, .int x3]) (rest := []) S (m5_letter l g AD M a2 x1 x3 _ hk_a2 hw) (cwV 2 hts (lw_V q658 q404 q405 q59 q406) rfl rfl rfl (by decide +kernel) ⟨Nat.le_of_ble_eq_true rfl, Nat.le_of_ble_eq_true rfl⟩) ⟨co_blind, co_recv hK hH (c := 5) (by decide) hk_a2, co_pre hK hH hA hS⟩ rfl rfl hl.1 rfl (lv_room (Nat.le_of_ble_eq_true rfl)) dX7_takes_121 ⟨Nat.le_refl _, Nat.le_refl _⟩) hS (fun M31 H locs hw hH hE33 hS => ?_)
    have hk35 := hE33.k hk_a2 (by decide)
    have hE := hE.tr hE33
    exact co_vret S hr hlocks hH hE hS hw dX7_takes_124
  by_cases cs7 : x1 = 7
  · refine lv_tableIn (off := 117) (tgt := 118) hx hb dX7_takes_1 (by rw [cs7]; decide) (by rw [cs7]; decide) (by rw [cs7]; decide) (by decide) ?_
    refine lv_aload_n hx hb dX7_takes_118 rfl (lv_at hl 2 rfl) ?_
    refine lv_iload_n hx hb dX7_takes_119 rfl (lv_at hl 1 rfl) ?_
    refine lv_iload_n hx hb dX7_takes_120 rfl (lv_at hl 3 rfl) ?_
    refine co_callv (va_runV (As := [.int x1, .int x3]) (rest := []) S (m5_letter l g AD M a2 x1 x3 _ hk_a2 hw) (cwV 2 hts (lw_V q658 q404 q405 q59 q406) rfl rfl rfl (by decide +kernel) ⟨Nat.le_of_ble_eq_true rfl, Nat.le_of_ble_eq_true rfl⟩) ⟨co_blind, co_recv hK hH (c := 5) (by decide) hk_a2, co_pre hK hH hA hS⟩ rfl rfl hl.1 rfl (lv_room (Nat.le_of_ble_eq_true rfl)) dX7_takes_121 ⟨Nat.le_refl _, Nat.le_refl _⟩) hS (fun M31 H locs hw hH hE33 hS => ?_)
    have hk35 := hE33.k hk_a2 (by decide)
    have hE := hE.tr hE33
    exact co_vret S hr hlocks hH hE hS hw dX7_takes_124
  by_cases cs9 : x1 = 9
  · refine lv_tableIn (off := 117) (tgt := 118) hx hb dX7_takes_1 (by rw [cs9]; decide) (by rw [cs9]; decide) (by rw [cs9]; decide) (by decide) ?_
    refine lv_aload_n hx hb dX7_takes_118 rfl (lv_at hl 2 rfl) ?_
    refine lv_iload_n hx hb dX7_takes_119 rfl (lv_at hl 1 rfl) ?_
    refine lv_iload_n hx hb dX7_takes_120 rfl (lv_at hl 3 rfl) ?_
    refine co_callv (va_runV (As := [.int x1, .int x3]) (rest := []) S (m5_letter l g AD M a2 x1 x3 _ hk_a2 hw) (cwV 2 hts (lw_V q658 q404 q405 q59 q406) rfl rfl rfl (by decide +kernel) ⟨Nat.le_of_ble_eq_true rfl, Nat.le_of_ble_eq_true rfl⟩) ⟨co_blind, co_recv hK hH (c := 5) (by decide) hk_a2, co_pre hK hH hA hS⟩ rfl rfl hl.1 rfl (lv_room (Nat.le_of_ble_eq_true rfl)) dX7_takes_121 ⟨Nat.le_refl _, Nat.le_refl _⟩) hS (fun M31 H locs hw hH hE33 hS => ?_)
    have hk35 := hE33.k hk_a2 (by decide)
    have hE := hE.tr hE33
    exact co_vret S hr hlocks hH hE hS hw dX7_takes_124
  by_cases cs10 : x1 = 10
  · refine lv_tableIn (off := 117) (tgt := 118) hx hb dX7_takes_1 (by rw [cs10]; decide) (by rw [cs10]; decide) (by rw [cs10]; decide) (by decide) ?_
    refine lv_aload_n hx hb dX7_takes_118 rfl (lv_at hl 2 rfl) ?_
    refine lv_iload_n hx hb dX7_takes_119 rfl (lv_at hl 1 rfl) ?_
    refine lv_iload_n hx hb dX7_takes_120 rfl (lv_at hl 3 rfl) ?_
    refine co_callv (va_runV (As := [.int x1, .int x3]) (rest := []) S (m5_letter l g AD M a2 x1 x3 _ hk_a2 hw) (cwV 2 hts (lw_V q658 q404 q405 q59 q406) rfl rfl rfl (by decide +kernel) ⟨Nat.le_of_ble_eq_true rfl, Nat.le_of_ble_eq_true rfl⟩) ⟨co_blind, co_recv hK hH (c := 5) (by decide) hk_a2, co_pre hK hH hA hS⟩ rfl rfl hl.1 rfl (lv_room (Nat.le_of_ble_eq_true rfl)) dX7_takes_121 ⟨Nat.le_refl _, Nat.le_refl _⟩) hS (fun M31 H locs hw hH hE33 hS => ?_)
    have hk35 := hE33.k hk_a2 (by decide)
    have hE := hE.tr hE33
    exact co_vret S hr hlocks hH hE hS hw dX7_takes_124
  by_cases cs11 : x1 = 11
  · refine lv_tableIn (off := 117) (tgt := 118) hx hb dX7_takes_1 (by rw [cs11]; decide) (by rw [cs11]; decide) (by rw [cs11]; decide) (by decide) ?_
    refine lv_aload_n hx hb dX7_takes_118 rfl (lv_at hl 2 rfl) ?_
    refine lv_iload_n hx hb dX7_takes_119 rfl (lv_at hl 1 rfl) ?_
    refine lv_iload_n hx hb dX7_takes_120 rfl (lv_at hl 3 rfl) ?_
    refine co_callv (va_runV (As := [.int x1, .int x3]) (rest := []) S (m5_letter l g AD M a2 x1 x3 _ hk_a2 hw) (cwV 2 hts (lw_V q658 q404 q405 q59 q406) rfl rfl rfl (by decide +kernel) ⟨Nat.le_of_ble_eq_true rfl, Nat.le_of_ble_eq_true rfl⟩) ⟨co_blind, co_recv hK hH (c := 5) (by decide) hk_a2, co_pre hK hH hA hS⟩ rfl rfl hl.1 rfl (lv_room (Nat.le_of_ble_eq_true rfl)) dX7_takes_121 ⟨Nat.le_refl _, Nat.le_refl _⟩) hS (fun M31 H locs hw hH hE33 hS => ?_)
    have hk35 := hE33.k hk_a2 (by decide)
    have hE := hE.tr hE33
    exact co_vret S hr hlocks hH hE hS hw dX7_takes_124
  by_cases cs12 : x1 = 12
  · refine lv_tableIn (off := 117) (tgt := 118) hx hb dX7_takes_1 (by rw [cs12]; decide) (by rw [cs12]; decide) (by rw [cs12]; decide) (by decide) ?_
    refine lv_aload_n hx hb dX7_takes_118 rfl (lv_at hl 2 rfl) ?_
    refine lv_iload_n hx hb dX7_takes_119 rfl (lv_at hl 1 rfl) ?_
    refine lv_iload_n hx hb dX7_takes_120 rfl (lv_at hl 3 rfl) ?_
    refine co_callv (va_runV (As := [.int x1, .int x3]) (rest := []) S (m5_letter l g AD M a2 x1 x3 _ hk_a2 hw) (cwV 2 hts (lw_V q658 q404 q405 q59 q406) rfl rfl rfl (by decide +kernel) ⟨Nat.le_of_ble_eq_true rfl, Nat.le_of_ble_eq_true rfl⟩) ⟨co_blind, co_recv hK hH (c := 5) (by decide) hk_a2, co_pre hK hH hA hS⟩ rfl rfl hl.1 rfl (lv_room (Nat.le_of_ble_eq_true rfl)) dX7_takes_121 ⟨Nat.le_refl _, Nat.le_refl _⟩) hS (fun M31 H locs hw hH hE33 hS => ?_)
    have hk35 := hE33.k hk_a2 (by decide)
    have hE := hE.tr hE33
    exact co_vret S hr hlocks hH hE hS hw dX7_takes_124
  have ne1 := lv_neT (a := 1) cs1 rfl
  have ne2 := lv_neT (a := 2) cs2 rfl
  have ne3 := lv_neT (a := 3) cs3 rfl
  have ne4 := lv_neT (a := 4) cs4 rfl
  have ne5 := lv_neT (a := 5) cs5 rfl
  have ne6 := lv_neT (a := 6) cs6 rfl
  have ne7 := lv_neT (a := 7) cs7 rfl
  have ne8 := lv_neT (a := 8) cs8 rfl
  have ne9 := lv_neT (a := 9) cs9 rfl
  have ne10 := lv_neT (a := 10) cs10 rfl
  have ne11 := lv_neT (a := 11) cs11 rfl
  have ne12 := lv_neT (a := 12) cs12 rfl
  have ne13 := lv_neT (a := 13) cs13 rfl
  refine lv_tableOut (tgt := 118) hx hb dX7_takes_1 (by omega) (by decide) ?_
  refine lv_aload_n hx hb dX7_takes_118 rfl (lv_at hl 2 rfl) ?_
  refine lv_iload_n hx hb dX7_takes_119 rfl (lv_at hl 1 rfl) ?_
  refine lv_iload_n hx hb dX7_takes_120 rfl (lv_at hl 3 rfl) ?_
  refine co_callv (va_runV (As := [.int x1, .int x3]) (rest := []) S (m5_letter l g AD M a2 x1 x3 _ hk_a2 hw) (cwV 2 hts (lw_V q658 q404 q405 q59 q406) rfl rfl rfl (by decide +kernel) ⟨Nat.le_of_ble_eq_true rfl, Nat.le_of_ble_eq_true rfl⟩) ⟨co_blind, co_recv hK hH (c := 5) (by decide) hk_a2, co_pre hK hH hA hS⟩ rfl rfl hl.1 rfl (lv_room (Nat.le_of_ble_eq_true rfl)) dX7_takes_121 ⟨Nat.le_refl _, Nat.le_refl _⟩) hS (fun M31 H locs hw hH hE33 hS => ?_)
  have hk35 := hE33.k hk_a2 (by decide)
  have hE := hE.tr hE33
  exact co_vret S hr hlocks hH hE hS hw dX7_takes_124
