/-! FarTypewriterModel.isCell(II)Z -/
abbrev rm9_isCell : Room := { frames := 0, cells := 0, slots := 0, locals := 0 }
def w9_isCell (post : Int32 → VV → AA → Prop) (V : VV) (A : AA) (x0 x1 : Int32) : Prop :=
  (x0 < 0 → post 0 V A) ∧ (¬ x0 < 0 → (8 ≤ x0 → post 0 V A) ∧ (¬ 8 ≤ x0 → (x1 < 0 → post 0 V A) ∧ (¬ x1 < 0 → (24 ≤ x1 → post 0 V A) ∧ (¬ 24 ≤ x1 → post 1 V A))))
set_option maxHeartbeats 4000000 in
set_option maxRecDepth 100000 in
theorem m9_isCell (l : Launch) (g : MG) (V : VV) (A : AA) (x0 x1 : Int32) (post : Int32 → VV → AA → Prop) (hI : HI g) (hw : w9_isCell post V A x0 x1) : Met l yX9_isCell (ws_ yX9_isCell cX9_isCell 2 (some .boolean)) rm9_isCell (MPc g V A [.int x0, .int x1]) (MQi g post) 0 0 (HA g) := by
  refine Met.ofW (cc := cX9_isCell) (maxL := 2) (ret := (some .boolean)) (by decide) rfl ?_
  intro p e s m args below meth c s₁ B hml hv
  obtain ⟨rfl, hK, hM⟩ := hv
  have hx := B.exec
  have hb := B.bytes
  have hr : meth.sig.returnType = (some .boolean) := B.returns
  have hts := atoms_spec (ws := ws_ yX9_isCell cX9_isCell 2 (some .boolean)) B.pre
  have hts : ∀ w ∈ lw_all, w.before _ s = true := fun w h => hts w (List.mem_cons_of_mem _ h)
  have hown : s.vm.findClass RX9 = some m.cls := findClass_of_methodNamed B.named
  have hlocks : meth.locks = false := B.notSynchronized
  have S : CallFix p m c cX9_isCell 2 s _ lw_all RX9 := ⟨hx, hb, hml, hown, hts⟩
  have hS : va_S (HA g) s.heap s.heap [] := va_S.rf
  have hl := lv_entry ([.int x0, .int x1]) (n := 2) (Nat.le_of_ble_eq_true rfl)
  rw [lg_entry_eq]
  generalize (lg_sl ([.int x0, .int x1]) ++ List.replicate (2 - (lg_sl ([.int x0, .int x1])).length) Slot.unset).toArray = ls at hl ⊢
  have hl : lv_has ls 2 [(0, .int x0), (1, .int x1)] := hl
  unfold w9_isCell at hw
  refine lv_iload_n hx hb dX9_isCell_0 rfl (lv_at hl 0 rfl) ?_
  refine lv_if_lt (tgt := 24) hx hb dX9_isCell_1 (by decide) (fun c1 => ?_) (fun c1 => ?_)
  · have hw := hw.1 c1
    refine lv_iconst (v := 0) hx hb dX9_isCell_24 (by decide) ?_
    exact mo_zret S hr hlocks hM hS rfl hw dX9_isCell_25
  · have hw := hw.2 c1
    refine lv_iload_n hx hb dX9_isCell_4 rfl (lv_at hl 0 rfl) ?_
    refine lv_bipush (v := 8) hx hb dX9_isCell_5 (by decide) ?_
    refine lv_icmp_ge (tgt := 24) hx hb dX9_isCell_7 (by decide) (fun c2 => ?_) (fun c2 => ?_)
    · have hw := hw.1 c2
      refine lv_iconst (v := 0) hx hb dX9_isCell_24 (by decide) ?_
      exact mo_zret S hr hlocks hM hS rfl hw dX9_isCell_25
    · have hw := hw.2 c2
      refine lv_iload_n hx hb dX9_isCell_10 rfl (lv_at hl 1 rfl) ?_
      refine lv_if_lt (tgt := 24) hx hb dX9_isCell_11 (by decide) (fun c3 => ?_) (fun c3 => ?_)
      · have hw := hw.1 c3
        refine lv_iconst (v := 0) hx hb dX9_isCell_24 (by decide) ?_
        exact mo_zret S hr hlocks hM hS rfl hw dX9_isCell_25
      · have hw := hw.2 c3
        refine lv_iload_n hx hb dX9_isCell_14 rfl (lv_at hl 1 rfl) ?_
        refine lv_bipush (v := 24) hx hb dX9_isCell_15 (by decide) ?_
        refine lv_icmp_ge (tgt := 24) hx hb dX9_isCell_17 (by decide) (fun c4 => ?_) (fun c4 => ?_)
        · have hw := hw.1 c4
          refine lv_iconst (v := 0) hx hb dX9_isCell_24 (by decide) ?_
          exact mo_zret S hr hlocks hM hS rfl hw dX9_isCell_25
        · have hw := hw.2 c4
          refine lv_iconst (v := 1) hx hb dX9_isCell_20 (by decide) ?_
          refine lv_goto (tgt := 25) hx hb dX9_isCell_21 (by decide) ?_
          exact mo_zret S hr hlocks hM hS rfl hw dX9_isCell_25
/-! FarTypewriterModel.move(II)Z -/
abbrev rm9_move : Room := { frames := 1, cells := 0, slots := 0, locals := 21 }
def w9_move (post : Int32 → VV → AA → Prop) (V : VV) (A : AA) (x1 x2 : Int32) : Prop :=
  w9_isCell (fun (r3 : Int32) (V1 : VV) (A2 : AA) => (r3 = 0 → post 0 V1 A2) ∧ (¬ r3 = 0 → vp_in 0 69 ∧ (vp_in 0 69 ∧ post 1 V1 (au (au A2 2 (0 : Int32).toNatClampNeg x1) 3 (0 : Int32).toNatClampNeg x2)))) V A x1 x2
set_option maxHeartbeats 4000000 in
set_option maxRecDepth 100000 in
theorem m9_move (l : Launch) (g : MG) (V : VV) (A : AA) (x1 x2 : Int32) (post : Int32 → VV → AA → Prop) (hI : HI g) (hw : w9_move post V A x1 x2) : Met l yX9_move (ws_ yX9_move cX9_move 3 (some .boolean)) rm9_move (MPc g V A [.ref (mh g), .int x1, .int x2]) (MQi g post) 0 0 (HA g) := by
  refine Met.ofW (cc := cX9_move) (maxL := 3) (ret := (some .boolean)) (by decide) rfl ?_
  intro p e s m args below meth c s₁ B hml hv
  obtain ⟨rfl, hK, hM⟩ := hv
  have hx := B.exec
  have hb := B.bytes
  have hr : meth.sig.returnType = (some .boolean) := B.returns
  have hts := atoms_spec (ws := ws_ yX9_move cX9_move 3 (some .boolean)) B.pre
  have hts : ∀ w ∈ lw_all, w.before _ s = true := fun w h => hts w (List.mem_cons_of_mem _ h)
  have hown : s.vm.findClass RX9 = some m.cls := findClass_of_methodNamed B.named
  have hlocks : meth.locks = false := B.notSynchronized
  have S : CallFix p m c cX9_move 3 s _ lw_all RX9 := ⟨hx, hb, hml, hown, hts⟩
  have hS : va_S (HA g) s.heap s.heap [] := va_S.rf
  have hl := lv_entry ([.ref (mh g), .int x1, .int x2]) (n := 3) (Nat.le_of_ble_eq_true rfl)
  rw [lg_entry_eq]
  generalize (lg_sl ([.ref (mh g), .int x1, .int x2]) ++ List.replicate (3 - (lg_sl ([.ref (mh g), .int x1, .int x2])).length) Slot.unset).toArray = ls at hl ⊢
  have hl : lv_has ls 3 [(0, .ref (mh g)), (1, .int x1), (2, .int x2)] := hl
  unfold w9_move at hw
  refine lv_iload_n hx hb dX9_move_0 rfl (lv_at hl 1 rfl) ?_
  refine lv_iload_n hx hb dX9_move_1 rfl (lv_at hl 2 rfl) ?_
  refine mo_scalli (As := [.int x1, .int x2]) S hK hM hS (m9_isCell l g V A x1 x2 _ hI hw) (va_cwS 2 hts (lw_S q953 q954 q64 q955) rfl rfl rfl (by decide +kernel) ⟨Nat.le_of_ble_eq_true rfl, Nat.le_of_ble_eq_true rfl⟩) rfl hl.1 rfl (lv_room (Nat.le_of_ble_eq_true rfl)) dX9_move_2 ⟨Nat.zero_le _, Nat.zero_le _⟩ (fun r3 V1 A2 H locs hw hM hS => ?_)
  refine lv_if_ne (tgt := 10) hx hb dX9_move_5 (by decide) (fun c4 => ?_) (fun c4 => ?_)
  · have hw := hw.2 c4
    refine lv_aload_n hx hb dX9_move_10 rfl (lv_at hl 0 rfl) ?_
    refine mo_geta S hK hM 2 (by decide) q781 dX9_move_11 rfl ?_
    refine lv_iconst (v := 0) hx hb dX9_move_14 (by decide) ?_
    refine lv_iload_n hx hb dX9_move_15 rfl (lv_at hl 1 rfl) ?_
    have hin := hw.1
    have hw := hw.2
    refine mo_ast S hK hI hM hS 2 rfl hin dX9_move_16 (fun H locs hM hS => ?_)
    refine lv_aload_n hx hb dX9_move_17 rfl (lv_at hl 0 rfl) ?_
    refine mo_geta S hK hM 3 (by decide) q782 dX9_move_18 rfl ?_
    refine lv_iconst (v := 0) hx hb dX9_move_21 (by decide) ?_
    refine lv_iload_n hx hb dX9_move_22 rfl (lv_at hl 2 rfl) ?_
    have hin := hw.1
    have hw := hw.2
    refine mo_ast S hK hI hM hS 3 rfl hin dX9_move_23 (fun H locs hM hS => ?_)
    refine lv_iconst (v := 1) hx hb dX9_move_24 (by decide) ?_
    exact mo_zret S hr hlocks hM hS rfl hw dX9_move_25
  · have hw := hw.1 c4
    refine lv_iconst (v := 0) hx hb dX9_move_8 (by decide) ?_
    exact mo_zret S hr hlocks hM hS rfl hw dX9_move_9
/-! FarTypewriterModel.wipe(I)Z -/
abbrev rm9_wipe : Room := { frames := 1, cells := 0, slots := 0, locals := 24 }
def w9_wipe (post : Int32 → VV → AA → Prop) (V : VV) (A : AA) (x1 : Int32) : Prop :=
  w9_isCell (fun (r3 : Int32) (V1 : VV) (A2 : AA) => (r3 = 0 → post 0 V1 A2) ∧ (¬ r3 = 0 → w9_blank (fun (V5 : VV) (A6 : AA) => post 1 V5 A6) V1 A2 0 (24 * x1) ((24 * x1) + 24))) V A x1 0
set_option maxHeartbeats 4000000 in
set_option maxRecDepth 100000 in
theorem m9_wipe (l : Launch) (g : MG) (V : VV) (A : AA) (x1 : Int32) (post : Int32 → VV → AA → Prop) (hI : HI g) (hw : w9_wipe post V A x1) : Met l yX9_wipe (ws_ yX9_wipe cX9_wipe 2 (some .boolean)) rm9_wipe (MPc g V A [.ref (mh g), .int x1]) (MQi g post) 0 0 (HA g) := by
  refine Met.ofW (cc := cX9_wipe) (maxL := 2) (ret := (some .boolean)) (by decide) rfl ?_
  intro p e s m args below meth c s₁ B hml hv
  obtain ⟨rfl, hK, hM⟩ := hv
  have hx := B.exec
  have hb := B.bytes
  have hr : meth.sig.returnType = (some .boolean) := B.returns
  have hts := atoms_spec (ws := ws_ yX9_wipe cX9_wipe 2 (some .boolean)) B.pre
  have hts : ∀ w ∈ lw_all, w.before _ s = true := fun w h => hts w (List.mem_cons_of_mem _ h)
  have hown : s.vm.findClass RX9 = some m.cls := findClass_of_methodNamed B.named
  have hlocks : meth.locks = false := B.notSynchronized
  have S : CallFix p m c cX9_wipe 2 s _ lw_all RX9 := ⟨hx, hb, hml, hown, hts⟩
  have hS : va_S (HA g) s.heap s.heap [] := va_S.rf
  have hl := lv_entry ([.ref (mh g), .int x1]) (n := 2) (Nat.le_of_ble_eq_true rfl)
  rw [lg_entry_eq]
  generalize (lg_sl ([.ref (mh g), .int x1]) ++ List.replicate (2 - (lg_sl ([.ref (mh g), .int x1])).length) Slot.unset).toArray = ls at hl ⊢
  have hl : lv_has ls 2 [(0, .ref (mh g)), (1, .int x1)] := hl
  unfold w9_wipe at hw
  refine lv_iload_n hx hb dX9_wipe_0 rfl (lv_at hl 1 rfl) ?_
  refine lv_iconst (v := 0) hx hb dX9_wipe_1 (by decide) ?_
  refine mo_scalli (As := [.int x1, .int 0]) S hK hM hS (m9_isCell l g V A x1 0 _ hI hw) (va_cwS 2 hts (lw_S q953 q954 q64 q955) rfl rfl rfl (by decide +kernel) ⟨Nat.le_of_ble_eq_true rfl, Nat.le_of_ble_eq_true rfl⟩) rfl hl.1 rfl (lv_room (Nat.le_of_ble_eq_true rfl)) dX9_wipe_2 ⟨Nat.zero_le _, Nat.zero_le _⟩ (fun r3 V1 A2 H locs hw hM hS => ?_)
  refine lv_if_ne (tgt := 10) hx hb dX9_wipe_5 (by decide) (fun c4 => ?_) (fun c4 => ?_)
  · have hw := hw.2 c4
    refine lv_aload_n hx hb dX9_wipe_10 rfl (lv_at hl 0 rfl) ?_
    refine lv_iconst (v := 0) hx hb dX9_wipe_11 (by decide) ?_
    refine lv_bipush (v := 24) hx hb dX9_wipe_12 (by decide) ?_
    refine lv_iload_n hx hb dX9_wipe_14 rfl (lv_at hl 1 rfl) ?_
    refine lv_imul hx hb dX9_wipe_15 ?_
    refine lv_bipush (v := 24) hx hb dX9_wipe_16 (by decide) ?_
    refine lv_iload_n hx hb dX9_wipe_18 rfl (lv_at hl 1 rfl) ?_
    refine lv_imul hx hb dX9_wipe_19 ?_
    refine lv_bipush (v := 24) hx hb dX9_wipe_20 (by decide) ?_
    refine lv_iadd hx hb dX9_wipe_22 ?_
    refine mo_callv (As := [.int 0, .int (24 * x1), .int ((24 * x1) + 24)]) S hK hM hS (m9_blank l g V1 A2 0 (24 * x1) ((24 * x1) + 24) _ hI hw) (cwV 3 hts (lw_V q775 q777 qs16 q64 q778) rfl rfl rfl (by decide +kernel) ⟨Nat.le_of_ble_eq_true rfl, Nat.le_of_ble_eq_true rfl⟩) rfl hl.1 rfl (lv_room (Nat.le_of_ble_eq_true rfl)) dX9_wipe_23 ⟨Nat.zero_le _, Nat.zero_le _⟩ (fun V5 A6 H locs hw hM hS => ?_)
    refine lv_iconst (v := 1) hx hb dX9_wipe_26 (by decide) ?_
    exact mo_zret S hr hlocks hM hS rfl hw dX9_wipe_27
  · have hw := hw.1 c4
    refine lv_iconst (v := 0) hx hb dX9_wipe_8 (by decide) ?_
    exact mo_zret S hr hlocks hM hS rfl hw dX9_wipe_9
/-! FarTypewriterModel.scroll(I)Z -/
abbrev rm9_scroll : Room := { frames := 2, cells := 0, slots := 0, locals := 47 }
def w9_scroll (post : Int32 → VV → AA → Prop) (V : VV) (A : AA) (x1 : Int32) : Prop :=
  (x1 < 1 → post 0 V A) ∧ (¬ x1 < 1 → (x1 ≤ 8 → w9_scrolls (fun (V3 : VV) (A4 : AA) => post 1 V3 A4) V A 0 x1) ∧ (¬ x1 ≤ 8 → post 0 V A))
set_option maxHeartbeats 4000000 in
set_option maxRecDepth 100000 in
theorem m9_scroll (l : Launch) (g : MG) (V : VV) (A : AA) (x1 : Int32) (post : Int32 → VV → AA → Prop) (hI : HI g) (hw : w9_scroll post V A x1) : Met l yX9_scroll (ws_ yX9_scroll cX9_scroll 2 (some .boolean)) rm9_scroll (MPc g V A [.ref (mh g), .int x1]) (MQi g post) 0 0 (HA g) := by
  refine Met.ofW (cc := cX9_scroll) (maxL := 2) (ret := (some .boolean)) (by decide) rfl ?_
  intro p e s m args below meth c s₁ B hml hv
  obtain ⟨rfl, hK, hM⟩ := hv
  have hx := B.exec
  have hb := B.bytes
  have hr : meth.sig.returnType = (some .boolean) := B.returns
  have hts := atoms_spec (ws := ws_ yX9_scroll cX9_scroll 2 (some .boolean)) B.pre
  have hts : ∀ w ∈ lw_all, w.before _ s = true := fun w h => hts w (List.mem_cons_of_mem _ h)
  have hown : s.vm.findClass RX9 = some m.cls := findClass_of_methodNamed B.named
  have hlocks : meth.locks = false := B.notSynchronized
  have S : CallFix p m c cX9_scroll 2 s _ lw_all RX9 := ⟨hx, hb, hml, hown, hts⟩
  have hS : va_S (HA g) s.heap s.heap [] := va_S.rf
  have hl := lv_entry ([.ref (mh g), .int x1]) (n := 2) (Nat.le_of_ble_eq_true rfl)
  rw [lg_entry_eq]
  generalize (lg_sl ([.ref (mh g), .int x1]) ++ List.replicate (2 - (lg_sl ([.ref (mh g), .int x1])).length) Slot.unset).toArray = ls at hl ⊢
  have hl : lv_has ls 2 [(0, .ref (mh g)), (1, .int x1)] := hl
  unfold w9_scroll at hw
  refine lv_iload_n hx hb dX9_scroll_0 rfl (lv_at hl 1 rfl) ?_
  refine lv_iconst (v := 1) hx hb dX9_scroll_1 (by decide) ?_
  refine lv_icmp_lt (tgt := 11) hx hb dX9_scroll_2 (by decide) (fun c1 => ?_) (fun c1 => ?_)
  · have hw := hw.1 c1
    refine lv_iconst (v := 0) hx hb dX9_scroll_11 (by decide) ?_
    exact mo_zret S hr hlocks hM hS rfl hw dX9_scroll_12
  · have hw := hw.2 c1
    refine lv_iload_n hx hb dX9_scroll_5 rfl (lv_at hl 1 rfl) ?_
    refine lv_bipush (v := 8) hx hb dX9_scroll_6 (by decide) ?_
    refine lv_icmp_le (tgt := 13) hx hb dX9_scroll_8 (by decide) (fun c2 => ?_) (fun c2 => ?_)
    · have hw := hw.1 c2
      refine lv_aload_n hx hb dX9_scroll_13 rfl (lv_at hl 0 rfl) ?_
      refine lv_iconst (v := 0) hx hb dX9_scroll_14 (by decide) ?_
      refine lv_iload_n hx hb dX9_scroll_15 rfl (lv_at hl 1 rfl) ?_
      refine mo_callv (As := [.int 0, .int x1]) S hK hM hS (m9_scrolls l g V A 0 x1 _ hI hw) (cwV 2 hts (lw_V q941 q943 qs19 q64 q944) rfl rfl rfl (by decide +kernel) ⟨Nat.le_of_ble_eq_true rfl, Nat.le_of_ble_eq_true rfl⟩) rfl hl.1 rfl (lv_room (Nat.le_of_ble_eq_true rfl)) dX9_scroll_16 ⟨Nat.zero_le _, Nat.zero_le _⟩ (fun V3 A4 H locs hw hM hS => ?_)
      refine lv_iconst (v := 1) hx hb dX9_scroll_19 (by decide) ?_
      exact mo_zret S hr hlocks hM hS rfl hw dX9_scroll_20
    · have hw := hw.2 c2
      refine lv_iconst (v := 0) hx hb dX9_scroll_11 (by decide) ?_
      exact mo_zret S hr hlocks hM hS rfl hw dX9_scroll_12
/-! FarTypewriterModel.pen(I)I -/
abbrev rm9_pen : Room := { frames := 0, cells := 0, slots := 0, locals := 0 }
def w9_pen (post : Int32 → VV → AA → Prop) (V : VV) (A : AA) (x1 : Int32) : Prop :=
  (x1 < 0 → post (-1) V A) ∧ (¬ x1 < 0 → (x1 ≤ 3 → ∀ y2_3 : Int32, y2_3 = V 6 → (post y2_3 (vu V 6 x1) A)) ∧ (¬ x1 ≤ 3 → post (-1) V A))
set_option maxHeartbeats 4000000 in
set_option maxRecDepth 100000 in
theorem m9_pen (l : Launch) (g : MG) (V : VV) (A : AA) (x1 : Int32) (post : Int32 → VV → AA → Prop) (hI : HI g) (hw : w9_pen post V A x1) : Met l yX9_pen (ws_ yX9_pen cX9_pen 3 (some .int)) rm9_pen (MPc g V A [.ref (mh g), .int x1]) (MQi g post) 0 0 (HA g) := by
  refine Met.ofW (cc := cX9_pen) (maxL := 3) (ret := (some .int)) (by decide) rfl ?_
  intro p e s m args below meth c s₁ B hml hv
  obtain ⟨rfl, hK, hM⟩ := hv
  have hx := B.exec
  have hb := B.bytes
  have hr : meth.sig.returnType = (some .int) := B.returns
  have hts := atoms_spec (ws := ws_ yX9_pen cX9_pen 3 (some .int)) B.pre
  have hts : ∀ w ∈ lw_all, w.before _ s = true := fun w h => hts w (List.mem_cons_of_mem _ h)
  have hown : s.vm.findClass RX9 = some m.cls := findClass_of_methodNamed B.named
  have hlocks : meth.locks = false := B.notSynchronized
  have S : CallFix p m c cX9_pen 3 s _ lw_all RX9 := ⟨hx, hb, hml, hown, hts⟩
  have hS : va_S (HA g) s.heap s.heap [] := va_S.rf
  have hl := lv_entry ([.ref (mh g), .int x1]) (n := 3) (Nat.le_of_ble_eq_true rfl)
  rw [lg_entry_eq]
  generalize (lg_sl ([.ref (mh g), .int x1]) ++ List.replicate (3 - (lg_sl ([.ref (mh g), .int x1])).length) Slot.unset).toArray = ls at hl ⊢
  have hl : lv_has ls 3 [(0, .ref (mh g)), (1, .int x1)] := hl
  unfold w9_pen at hw
  refine lv_iload_n hx hb dX9_pen_0 rfl (lv_at hl 1 rfl) ?_
  refine lv_if_lt (tgt := 9) hx hb dX9_pen_1 (by decide) (fun c1 => ?_) (fun c1 => ?_)
  · have hw := hw.1 c1
    refine lv_iconst (v := (-1)) hx hb dX9_pen_9 (by decide) ?_
    exact mo_iret S hr hlocks hM hS hw dX9_pen_10
  · have hw := hw.2 c1
    refine lv_iload_n hx hb dX9_pen_4 rfl (lv_at hl 1 rfl) ?_
    refine lv_iconst (v := 3) hx hb dX9_pen_5 (by decide) ?_
    refine lv_icmp_le (tgt := 11) hx hb dX9_pen_6 (by decide) (fun c2 => ?_) (fun c2 => ?_)
    · have hw := hw.1 c2
      refine lv_aload_n hx hb dX9_pen_11 rfl (lv_at hl 0 rfl) ?_
      refine mo_geti S hK hM 6 (by decide) q785 dX9_pen_12 rfl ?_
      refine lv_topi (fun y2_3 ey2_3 => ?_)
      have hw := hw y2_3 ey2_3
      refine lv_istore_n (lv' := [(2, .int y2_3), (0, .ref (mh g)), (1, .int x1)]) hx hb dX9_pen_15 rfl hl (by decide) rfl (fun ls hl => ?_)
      refine lv_aload_n hx hb dX9_pen_16 rfl (lv_at hl 1 rfl) ?_
      refine lv_iload_n hx hb dX9_pen_17 rfl (lv_at hl 2 rfl) ?_
      refine mo_put S hK hI hM hS 6 (by decide) q785 dX9_pen_18 rfl rfl ⟨rfl, rfl⟩ (fun H locs hM hS => ?_)
      refine lv_iload_n hx hb dX9_pen_21 rfl (lv_at hl 0 rfl) ?_
      exact mo_iret S hr hlocks hM hS hw dX9_pen_22
    · have hw := hw.2 c2
      refine lv_iconst (v := (-1)) hx hb dX9_pen_9 (by decide) ?_
      exact mo_iret S hr hlocks hM hS hw dX9_pen_10
/-! FarTypewriterModel.farNewest()I -/
abbrev rm9_farNewest : Room := { frames := 0, cells := 0, slots := 0, locals := 0 }
def w9_farNewest (post : Int32 → VV → AA → Prop) (V : VV) (A : AA) : Prop :=
  post ((1 + (V 14)) - 1) V A
set_option maxHeartbeats 4000000 in
set_option maxRecDepth 100000 in
theorem m9_farNewest (l : Launch) (g : MG) (V : VV) (A : AA) (post : Int32 → VV → AA → Prop) (hI : HI g) (hw : w9_farNewest post V A ) : Met l yX9_farNewest (ws_ yX9_farNewest cX9_farNewest 1 (some .int)) rm9_farNewest (MPc g V A [.ref (mh g)]) (MQi g post) 0 0 (HA g) := by
  refine Met.ofW (cc := cX9_farNewest) (maxL := 1) (ret := (some .int)) (by decide) rfl ?_
  intro p e s m args below meth c s₁ B hml hv
  obtain ⟨rfl, hK, hM⟩ := hv
  have hx := B.exec
  have hb := B.bytes
  have hr : meth.sig.returnType = (some .int) := B.returns
  have hts := atoms_spec (ws := ws_ yX9_farNewest cX9_farNewest 1 (some .int)) B.pre
  have hts : ∀ w ∈ lw_all, w.before _ s = true := fun w h => hts w (List.mem_cons_of_mem _ h)
  have hown : s.vm.findClass RX9 = some m.cls := findClass_of_methodNamed B.named
  have hlocks : meth.locks = false := B.notSynchronized
  have S : CallFix p m c cX9_farNewest 1 s _ lw_all RX9 := ⟨hx, hb, hml, hown, hts⟩
  have hS : va_S (HA g) s.heap s.heap [] := va_S.rf
  have hl := lv_entry ([.ref (mh g)]) (n := 1) (Nat.le_of_ble_eq_true rfl)
  rw [lg_entry_eq]
  generalize (lg_sl ([.ref (mh g)]) ++ List.replicate (1 - (lg_sl ([.ref (mh g)])).length) Slot.unset).toArray = ls at hl ⊢
  have hl : lv_has ls 1 [(0, .ref (mh g))] := hl
  unfold w9_farNewest at hw
  refine lv_iconst (v := 1) hx hb dX9_farNewest_0 (by decide) ?_
  refine lv_aload_n hx hb dX9_farNewest_1 rfl (lv_at hl 0 rfl) ?_
  refine mo_geti S hK hM 14 (by decide) q793 dX9_farNewest_2 rfl ?_
  refine lv_iadd hx hb dX9_farNewest_5 ?_
  refine lv_iconst (v := 1) hx hb dX9_farNewest_6 (by decide) ?_
  refine lv_isub hx hb dX9_farNewest_7 ?_
  exact mo_iret S hr hlocks hM hS hw dX9_farNewest_8
/-! FarTypewriterModel.sameCells(II)Z -/
abbrev rm9_sameCells : Room := { frames := 0, cells := 0, slots := 0, locals := 0 }
def b9_sameCells_2 (post : Int32 → VV → AA → Prop)  (kb : VV → AA → Int32 → Int32 → Int32 → Prop) (V : VV) (A : AA) (x1 x2 x3 : Int32) : Prop :=
  (192 ≤ x3 → vp_in x1 69 ∧ (vp_in x2 69 ∧ (((A 2 x1.toNatClampNeg) = (A 2 x2.toNatClampNeg) → vp_in x1 69 ∧ (vp_in x2 69 ∧ (((A 3 x1.toNatClampNeg) = (A 3 x2.toNatClampNeg) → post 1 V A) ∧ (¬ (A 3 x1.toNatClampNeg) = (A 3 x2.toNatClampNeg) → post 0 V A)))) ∧ (¬ (A 2 x1.toNatClampNeg) = (A 2 x2.toNatClampNeg) → post 0 V A)))) ∧ (¬ 192 ≤ x3 → vp_in ((192 * x1) + x3) 13248 ∧ (vp_in ((192 * x2) + x3) 13248 ∧ (((A 0 ((192 * x1) + x3).toNatClampNeg) = (A 0 ((192 * x2) + x3).toNatClampNeg) → vp_in ((192 * x1) + x3) 13248 ∧ (vp_in ((192 * x2) + x3) 13248 ∧ (((A 1 ((192 * x1) + x3).toNatClampNeg) = (A 1 ((192 * x2) + x3).toNatClampNeg) → kb V A x1 x2 (x3 + 1)) ∧ (¬ (A 1 ((192 * x1) + x3).toNatClampNeg) = (A 1 ((192 * x2) + x3).toNatClampNeg) → post 0 V A)))) ∧ (¬ (A 0 ((192 * x1) + x3).toNatClampNeg) = (A 0 ((192 * x2) + x3).toNatClampNeg) → post 0 V A))))
def w9_sameCells_2 (post : Int32 → VV → AA → Prop)  : Nat → VV → AA → Int32 → Int32 → Int32 → Prop
  | 0 => fun _ _ _ _ _ => False
  | n + 1 => b9_sameCells_2 post  (w9_sameCells_2 post  n)
set_option maxHeartbeats 4000000 in
set_option maxRecDepth 100000 in
theorem r9_sameCells_2 {p : Program} {l : Launch} {e : Env} {s : State} {m : MethodId} {args : Array Value} {below : List Frame} {meth : Method} {c : Code} {g : MG} (S : CallFix p m c cX9_sameCells 4 s args lw_all RX9) (hr : meth.sig.returnType = (some .boolean)) (hlocks : meth.locks = false) (hK : KM g s) (hI : HI g) {post : Int32 → VV → AA → Prop}  : ∀ n : Nat, ∀ (V : VV) (A : AA) (x1 x2 x3 : Int32), w9_sameCells_2 post  n V A x1 x2 x3 → ∀ (H : Heap) (locs : List Loc), HM g V A H → va_S (HA g) s.heap H locs → ∀ (ls : Array Slot), lv_has ls 4 [(0, .ref (mh g)), (1, .int x1), (2, .int x2), (3, .int x3)] → W p l e rm9_sameCells s m args below meth c H locs 0 0 (MQ below (MQi g post) args s 0 0 (HA g)) (F0 m 2 ls []) := by
  have hx := S.1
  have hb := S.2.1
  have hown := S.2.2.2.1
  have hts := S.2.2.2.2
  intro n
  induction n with
  | zero =>
    intro V A x1 x2 x3 hw
    exact hw.elim
  | succ n hkb =>
    intro V A x1 x2 x3 hw H locs hM hS ls hl
    unfold w9_sameCells_2 b9_sameCells_2 at hw
    refine lv_iload_n hx hb dX9_sameCells_2 rfl (lv_at hl 3 rfl) ?_
    refine lv_sipush (v := 192) hx hb dX9_sameCells_3 (by decide) ?_
    refine lv_icmp_ge (tgt := 71) hx hb dX9_sameCells_6 (by decide) (fun c1 => ?_) (fun c1 => ?_)
    · have hw := hw.1 c1
      refine lv_aload_n hx hb dX9_sameCells_71 rfl (lv_at hl 0 rfl) ?_
      refine mo_geta S hK hM 2 (by decide) q781 dX9_sameCells_72 rfl ?_
      refine lv_iload_n hx hb dX9_sameCells_75 rfl (lv_at hl 1 rfl) ?_
      have hin := hw.1
      have hw := hw.2
      refine mo_ald S hK hM 2 rfl hin dX9_sameCells_76 ?_
      refine lv_aload_n hx hb dX9_sameCells_77 rfl (lv_at hl 0 rfl) ?_
      refine mo_geta S hK hM 2 (by decide) q781 dX9_sameCells_78 rfl ?_
      refine lv_iload_n hx hb dX9_sameCells_81 rfl (lv_at hl 2 rfl) ?_
      have hin := hw.1
      have hw := hw.2
      refine mo_ald S hK hM 2 rfl hin dX9_sameCells_82 ?_
      refine lv_icmp_ne (tgt := 105) hx hb dX9_sameCells_83 (by decide) (fun c2 => ?_) (fun c2 => ?_)
      · have hw := hw.2 c2
        refine lv_iconst (v := 0) hx hb dX9_sameCells_105 (by decide) ?_
        exact mo_zret S hr hlocks hM hS rfl hw dX9_sameCells_106
      · have hw := hw.1 c2
        refine lv_aload_n hx hb dX9_sameCells_86 rfl (lv_at hl 0 rfl) ?_
        refine mo_geta S hK hM 3 (by decide) q782 dX9_sameCells_87 rfl ?_
        refine lv_iload_n hx hb dX9_sameCells_90 rfl (lv_at hl 1 rfl) ?_
        have hin := hw.1
        have hw := hw.2
        refine mo_ald S hK hM 3 rfl hin dX9_sameCells_91 ?_
        refine lv_aload_n hx hb dX9_sameCells_92 rfl (lv_at hl 0 rfl) ?_
        refine mo_geta S hK hM 3 (by decide) q782 dX9_sameCells_93 rfl ?_
        refine lv_iload_n hx hb dX9_sameCells_96 rfl (lv_at hl 2 rfl) ?_
        have hin := hw.1
        have hw := hw.2
        refine mo_ald S hK hM 3 rfl hin dX9_sameCells_97 ?_
        refine lv_icmp_ne (tgt := 105) hx hb dX9_sameCells_98 (by decide) (fun c3 => ?_) (fun c3 => ?_)
        · have hw := hw.2 c3
          refine lv_iconst (v := 0) hx hb dX9_sameCells_105 (by decide) ?_
          exact mo_zret S hr hlocks hM hS rfl hw dX9_sameCells_106
        · have hw := hw.1 c3
          refine lv_iconst (v := 1) hx hb dX9_sameCells_101 (by decide) ?_
          refine lv_goto (tgt := 106) hx hb dX9_sameCells_102 (by decide) ?_
          exact mo_zret S hr hlocks hM hS rfl hw dX9_sameCells_106
    · have hw := hw.2 c1
      refine lv_aload_n hx hb dX9_sameCells_9 rfl (lv_at hl 0 rfl) ?_
      refine mo_geta S hK hM 0 (by decide) q779 dX9_sameCells_10 rfl ?_
      refine lv_sipush (v := 192) hx hb dX9_sameCells_13 (by decide) ?_
      refine lv_iload_n hx hb dX9_sameCells_16 rfl (lv_at hl 1 rfl) ?_
      refine lv_imul hx hb dX9_sameCells_17 ?_
      refine lv_iload_n hx hb dX9_sameCells_18 rfl (lv_at hl 3 rfl) ?_
      refine lv_iadd hx hb dX9_sameCells_19 ?_
      have hin := hw.1
      have hw := hw.2
      refine mo_ald S hK hM 0 rfl hin dX9_sameCells_20 ?_
      refine lv_aload_n hx hb dX9_sameCells_21 rfl (lv_at hl 0 rfl) ?_
      refine mo_geta S hK hM 0 (by decide) q779 dX9_sameCells_22 rfl ?_
      refine lv_sipush (v := 192) hx hb dX9_sameCells_25 (by decide) ?_
      refine lv_iload_n hx hb dX9_sameCells_28 rfl (lv_at hl 2 rfl) ?_
      refine lv_imul hx hb dX9_sameCells_29 ?_
      refine lv_iload_n hx hb dX9_sameCells_30 rfl (lv_at hl 3 rfl) ?_
      refine lv_iadd hx hb dX9_sameCells_31 ?_
      have hin := hw.1
      have hw := hw.2
      refine mo_ald S hK hM 0 rfl hin dX9_sameCells_32 ?_
      refine lv_icmp_ne (tgt := 63) hx hb dX9_sameCells_33 (by decide) (fun c4 => ?_) (fun c4 => ?_)
      · have hw := hw.2 c4
        refine lv_iconst (v := 0) hx hb dX9_sameCells_63 (by decide) ?_
        exact mo_zret S hr hlocks hM hS rfl hw dX9_sameCells_64
      · have hw := hw.1 c4
        refine lv_aload_n hx hb dX9_sameCells_36 rfl (lv_at hl 0 rfl) ?_
        refine mo_geta S hK hM 1 (by decide) q780 dX9_sameCells_37 rfl ?_
        refine lv_sipush (v := 192) hx hb dX9_sameCells_40 (by decide) ?_
        refine lv_iload_n hx hb dX9_sameCells_43 rfl (lv_at hl 1 rfl) ?_
        refine lv_imul hx hb dX9_sameCells_44 ?_
        refine lv_iload_n hx hb dX9_sameCells_45 rfl (lv_at hl 3 rfl) ?_
        refine lv_iadd hx hb dX9_sameCells_46 ?_
        have hin := hw.1
        have hw := hw.2
        refine mo_ald S hK hM 1 rfl hin dX9_sameCells_47 ?_
        refine lv_aload_n hx hb dX9_sameCells_48 rfl (lv_at hl 0 rfl) ?_
        refine mo_geta S hK hM 1 (by decide) q780 dX9_sameCells_49 rfl ?_
        refine lv_sipush (v := 192) hx hb dX9_sameCells_52 (by decide) ?_
        refine lv_iload_n hx hb dX9_sameCells_55 rfl (lv_at hl 2 rfl) ?_
        refine lv_imul hx hb dX9_sameCells_56 ?_
        refine lv_iload_n hx hb dX9_sameCells_57 rfl (lv_at hl 3 rfl) ?_
        refine lv_iadd hx hb dX9_sameCells_58 ?_
        have hin := hw.1
        have hw := hw.2
        refine mo_ald S hK hM 1 rfl hin dX9_sameCells_59 ?_
        refine lv_icmp_eq (tgt := 65) hx hb dX9_sameCells_60 (by decide) (fun c5 => ?_) (fun c5 => ?_)
        · have hw := hw.1 c5
          refine lv_iinc (v := x3 + 1) (lv' := [(3, .int (x3 + 1)), (0, .ref (mh g)), (1, .int x1), (2, .int x2)]) hx hb dX9_sameCells_65 hl (k := 3) rfl rfl (by decide) rfl (fun ls hl => ?_)
          refine lv_goto (tgt := 2) hx hb dX9_sameCells_68 (by decide) ?_
          exact hkb _ _ _ _ _ hw _ _ hM hS _ (lv_sub hl [1, 2, 3, 0] rfl)
        · have hw := hw.2 c5
          refine lv_iconst (v := 0) hx hb dX9_sameCells_63 (by decide) ?_
          exact mo_zret S hr hlocks hM hS rfl hw dX9_sameCells_64
def w9_sameCells (post : Int32 → VV → AA → Prop) (V : VV) (A : AA) (x1 x2 : Int32) : Prop :=
  ∃ n, w9_sameCells_2 post  n V A x1 x2 0
set_option maxHeartbeats 4000000 in
set_option maxRecDepth 100000 in
theorem m9_sameCells (l : Launch) (g : MG) (V : VV) (A : AA) (x1 x2 : Int32) (post : Int32 → VV → AA → Prop) (hI : HI g) (hw : w9_sameCells post V A x1 x2) : Met l yX9_sameCells (ws_ yX9_sameCells cX9_sameCells 4 (some .boolean)) rm9_sameCells (MPc g V A [.ref (mh g), .int x1, .int x2]) (MQi g post) 0 0 (HA g) := by
  refine Met.ofW (cc := cX9_sameCells) (maxL := 4) (ret := (some .boolean)) (by decide) rfl ?_
  intro p e s m args below meth c s₁ B hml hv
  obtain ⟨rfl, hK, hM⟩ := hv
  have hx := B.exec
  have hb := B.bytes
  have hr : meth.sig.returnType = (some .boolean) := B.returns
  have hts := atoms_spec (ws := ws_ yX9_sameCells cX9_sameCells 4 (some .boolean)) B.pre
  have hts : ∀ w ∈ lw_all, w.before _ s = true := fun w h => hts w (List.mem_cons_of_mem _ h)
  have hown : s.vm.findClass RX9 = some m.cls := findClass_of_methodNamed B.named
  have hlocks : meth.locks = false := B.notSynchronized
  have S : CallFix p m c cX9_sameCells 4 s _ lw_all RX9 := ⟨hx, hb, hml, hown, hts⟩
  have hS : va_S (HA g) s.heap s.heap [] := va_S.rf
  have hl := lv_entry ([.ref (mh g), .int x1, .int x2]) (n := 4) (Nat.le_of_ble_eq_true rfl)
  rw [lg_entry_eq]
  generalize (lg_sl ([.ref (mh g), .int x1, .int x2]) ++ List.replicate (4 - (lg_sl ([.ref (mh g), .int x1, .int x2])).length) Slot.unset).toArray = ls at hl ⊢
  have hl : lv_has ls 4 [(0, .ref (mh g)), (1, .int x1), (2, .int x2)] := hl
  unfold w9_sameCells at hw
  refine lv_iconst (v := 0) hx hb dX9_sameCells_0 (by decide) ?_
  refine lv_istore_n (lv' := [(3, .int 0), (0, .ref (mh g)), (1, .int x1), (2, .int x2)]) hx hb dX9_sameCells_1 rfl hl (by decide) rfl (fun ls hl => ?_)
  obtain ⟨n, hw⟩ := hw
  refine r9_sameCells_2 S hr hlocks hK hI  n _ _ _ _ _ hw _ _ hM hS _ (lv_sub hl [1, 2, 3, 0] rfl)
/-! FarTypewriterModel.copies(II)V -/
abbrev rm9_copies : Room := { frames := 0, cells := 0, slots := 0, locals := 0 }
def b9_copies_2 (post : VV → AA → Prop)  (kb : VV → AA → Int32 → Int32 → Int32 → Prop) (V : VV) (A : AA) (x1 x2 x3 : Int32) : Prop :=
  (192 ≤ x3 → vp_in x1 69 ∧ (vp_in x2 69 ∧ (vp_in x1 69 ∧ (vp_in x2 69 ∧ (vp_in x1 69 ∧ (vp_in x2 69 ∧ (vp_in x1 69 ∧ (vp_in x2 69 ∧ post V (au (au (au (au A 2 x2.toNatClampNeg (A 2 x1.toNatClampNeg)) 3 x2.toNatClampNeg ((au A 2 x2.toNatClampNeg (A 2 x1.toNatClampNeg)) 3 x1.toNatClampNeg)) 4 x2.toNatClampNeg ((au (au A 2 x2.toNatClampNeg (A 2 x1.toNatClampNeg)) 3 x2.toNatClampNeg ((au A 2 x2.toNatClampNeg (A 2 x1.toNatClampNeg)) 3 x1.toNatClampNeg)) 4 x1.toNatClampNeg)) 5 x2.toNatClampNeg ((au (au (au A 2 x2.toNatClampNeg (A 2 x1.toNatClampNeg)) 3 x2.toNatClampNeg ((au A 2 x2.toNatClampNeg (A 2 x1.toNatClampNeg)) 3 x1.toNatClampNeg)) 4 x2.toNatClampNeg ((au (au A 2 x2.toNatClampNeg (A 2 x1.toNatClampNeg)) 3 x2.toNatClampNeg ((au A 2 x2.toNatClampNeg (A 2 x1.toNatClampNeg)) 3 x1.toNatClampNeg)) 4 x1.toNatClampNeg)) 5 x1.toNatClampNeg)))))))))) ∧ (¬ 192 ≤ x3 → vp_in ((192 * x1) + x3) 13248 ∧ (vp_in ((192 * x2) + x3) 13248 ∧ (vp_in ((192 * x1) + x3) 13248 ∧ (vp_in ((192 * x2) + x3) 13248 ∧ kb V (au (au A 0 ((192 * x2) + x3).toNatClampNeg (A 0 ((192 * x1) + x3).toNatClampNeg)) 1 ((192 * x2) + x3).toNatClampNeg ((au A 0 ((192 * x2) + x3).toNatClampNeg (A 0 ((192 * x1) + x3).toNatClampNeg)) 1 ((192 * x1) + x3).toNatClampNeg)) x1 x2 (x3 + 1)))))
def w9_copies_2 (post : VV → AA → Prop)  : Nat → VV → AA → Int32 → Int32 → Int32 → Prop
  | 0 => fun _ _ _ _ _ => False
  | n + 1 => b9_copies_2 post  (w9_copies_2 post  n)
set_option maxHeartbeats 4000000 in
set_option maxRecDepth 100000 in
theorem r9_copies_2 {p : Program} {l : Launch} {e : Env} {s : State} {m : MethodId} {args : Array Value} {below : List Frame} {meth : Method} {c : Code} {g : MG} (S : CallFix p m c cX9_copies 4 s args lw_all RX9) (hr : meth.sig.returnType = none) (hlocks : meth.locks = false) (hK : KM g s) (hI : HI g) {post : VV → AA → Prop}  : ∀ n : Nat, ∀ (V : VV) (A : AA) (x1 x2 x3 : Int32), w9_copies_2 post  n V A x1 x2 x3 → ∀ (H : Heap) (locs : List Loc), HM g V A H → va_S (HA g) s.heap H locs → ∀ (ls : Array Slot), lv_has ls 4 [(0, .ref (mh g)), (1, .int x1), (2, .int x2), (3, .int x3)] → W p l e rm9_copies s m args below meth c H locs 0 0 (MQ below (MQv g post) args s 0 0 (HA g)) (F0 m 2 ls []) := by
  have hx := S.1
  have hb := S.2.1
  have hown := S.2.2.2.1
  have hts := S.2.2.2.2
  intro n
  induction n with
  | zero =>
    intro V A x1 x2 x3 hw
    exact hw.elim
  | succ n hkb =>
    intro V A x1 x2 x3 hw H locs hM hS ls hl
    unfold w9_copies_2 b9_copies_2 at hw
    refine lv_iload_n hx hb dX9_copies_2 rfl (lv_at hl 3 rfl) ?_
    refine lv_sipush (v := 192) hx hb dX9_copies_3 (by decide) ?_
    refine lv_icmp_ge (tgt := 63) hx hb dX9_copies_6 (by decide) (fun c1 => ?_) (fun c1 => ?_)
    · have hw := hw.1 c1
      refine lv_aload_n hx hb dX9_copies_63 rfl (lv_at hl 0 rfl) ?_
      refine mo_geta S hK hM 2 (by decide) q781 dX9_copies_64 rfl ?_
      refine lv_iload_n hx hb dX9_copies_67 rfl (lv_at hl 2 rfl) ?_
      refine lv_aload_n hx hb dX9_copies_68 rfl (lv_at hl 0 rfl) ?_
      refine mo_geta S hK hM 2 (by decide) q781 dX9_copies_69 rfl ?_
      refine lv_iload_n hx hb dX9_copies_72 rfl (lv_at hl 1 rfl) ?_
      have hin := hw.1
      have hw := hw.2
      refine mo_ald S hK hM 2 rfl hin dX9_copies_73 ?_
      have hin := hw.1
      have hw := hw.2
      refine mo_ast S hK hI hM hS 2 rfl hin dX9_copies_74 (fun H locs hM hS => ?_)
      refine lv_aload_n hx hb dX9_copies_75 rfl (lv_at hl 0 rfl) ?_
      refine mo_geta S hK hM 3 (by decide) q782 dX9_copies_76 rfl ?_
      refine lv_iload_n hx hb dX9_copies_79 rfl (lv_at hl 2 rfl) ?_
      refine lv_aload_n hx hb dX9_copies_80 rfl (lv_at hl 0 rfl) ?_
      refine mo_geta S hK hM 3 (by decide) q782 dX9_copies_81 rfl ?_
      refine lv_iload_n hx hb dX9_copies_84 rfl (lv_at hl 1 rfl) ?_
      have hin := hw.1
      have hw := hw.2
      refine mo_ald S hK hM 3 rfl hin dX9_copies_85 ?_
      have hin := hw.1
      have hw := hw.2
      refine mo_ast S hK hI hM hS 3 rfl hin dX9_copies_86 (fun H locs hM hS => ?_)
      refine lv_aload_n hx hb dX9_copies_87 rfl (lv_at hl 0 rfl) ?_
      refine mo_geta S hK hM 4 (by decide) q783 dX9_copies_88 rfl ?_
      refine lv_iload_n hx hb dX9_copies_91 rfl (lv_at hl 2 rfl) ?_
      refine lv_aload_n hx hb dX9_copies_92 rfl (lv_at hl 0 rfl) ?_
      refine mo_geta S hK hM 4 (by decide) q783 dX9_copies_93 rfl ?_
      refine lv_iload_n hx hb dX9_copies_96 rfl (lv_at hl 1 rfl) ?_
      have hin := hw.1
      have hw := hw.2
      refine mo_ald S hK hM 4 rfl hin dX9_copies_97 ?_
      have hin := hw.1
      have hw := hw.2
      refine mo_ast S hK hI hM hS 4 rfl hin dX9_copies_98 (fun H locs hM hS => ?_)
      refine lv_aload_n hx hb dX9_copies_99 rfl (lv_at hl 0 rfl) ?_
      refine mo_geta S hK hM 5 (by decide) q784 dX9_copies_100 rfl ?_
      refine lv_iload_n hx hb dX9_copies_103 rfl (lv_at hl 2 rfl) ?_
      refine lv_aload_n hx hb dX9_copies_104 rfl (lv_at hl 0 rfl) ?_
      refine mo_geta S hK hM 5 (by decide) q784 dX9_copies_105 rfl ?_
      refine lv_iload_n hx hb dX9_copies_108 rfl (lv_at hl 1 rfl) ?_
      have hin := hw.1
      have hw := hw.2
      refine mo_ald S hK hM 5 rfl hin dX9_copies_109 ?_
      have hin := hw.1
      have hw := hw.2
      refine mo_ast S hK hI hM hS 5 rfl hin dX9_copies_110 (fun H locs hM hS => ?_)
      exact mo_vret S hr hlocks hM hS hw dX9_copies_111
    · have hw := hw.2 c1
      refine lv_aload_n hx hb dX9_copies_9 rfl (lv_at hl 0 rfl) ?_
      refine mo_geta S hK hM 0 (by decide) q779 dX9_copies_10 rfl ?_
      refine lv_sipush (v := 192) hx hb dX9_copies_13 (by decide) ?_
      refine lv_iload_n hx hb dX9_copies_16 rfl (lv_at hl 2 rfl) ?_
      refine lv_imul hx hb dX9_copies_17 ?_
      refine lv_iload_n hx hb dX9_copies_18 rfl (lv_at hl 3 rfl) ?_
      refine lv_iadd hx hb dX9_copies_19 ?_
      refine lv_aload_n hx hb dX9_copies_20 rfl (lv_at hl 0 rfl) ?_
      refine mo_geta S hK hM 0 (by decide) q779 dX9_copies_21 rfl ?_
      refine lv_sipush (v := 192) hx hb dX9_copies_24 (by decide) ?_
      refine lv_iload_n hx hb dX9_copies_27 rfl (lv_at hl 1 rfl) ?_
      refine lv_imul hx hb dX9_copies_28 ?_
      refine lv_iload_n hx hb dX9_copies_29 rfl (lv_at hl 3 rfl) ?_
      refine lv_iadd hx hb dX9_copies_30 ?_
      have hin := hw.1
      have hw := hw.2
      refine mo_ald S hK hM 0 rfl hin dX9_copies_31 ?_
      have hin := hw.1
      have hw := hw.2
      refine mo_ast S hK hI hM hS 0 rfl hin dX9_copies_32 (fun H locs hM hS => ?_)
      refine lv_aload_n hx hb dX9_copies_33 rfl (lv_at hl 0 rfl) ?_
      refine mo_geta S hK hM 1 (by decide) q780 dX9_copies_34 rfl ?_
      refine lv_sipush (v := 192) hx hb dX9_copies_37 (by decide) ?_
      refine lv_iload_n hx hb dX9_copies_40 rfl (lv_at hl 2 rfl) ?_
      refine lv_imul hx hb dX9_copies_41 ?_
      refine lv_iload_n hx hb dX9_copies_42 rfl (lv_at hl 3 rfl) ?_
      refine lv_iadd hx hb dX9_copies_43 ?_
      refine lv_aload_n hx hb dX9_copies_44 rfl (lv_at hl 0 rfl) ?_
      refine mo_geta S hK hM 1 (by decide) q780 dX9_copies_45 rfl ?_
      refine lv_sipush (v := 192) hx hb dX9_copies_48 (by decide) ?_
      refine lv_iload_n hx hb dX9_copies_51 rfl (lv_at hl 1 rfl) ?_
      refine lv_imul hx hb dX9_copies_52 ?_
      refine lv_iload_n hx hb dX9_copies_53 rfl (lv_at hl 3 rfl) ?_
      refine lv_iadd hx hb dX9_copies_54 ?_
      have hin := hw.1
      have hw := hw.2
      refine mo_ald S hK hM 1 rfl hin dX9_copies_55 ?_
      have hin := hw.1
      have hw := hw.2
      refine mo_ast S hK hI hM hS 1 rfl hin dX9_copies_56 (fun H locs hM hS => ?_)
      refine lv_iinc (v := x3 + 1) (lv' := [(3, .int (x3 + 1)), (0, .ref (mh g)), (1, .int x1), (2, .int x2)]) hx hb dX9_copies_57 hl (k := 3) rfl rfl (by decide) rfl (fun ls hl => ?_)
      refine lv_goto (tgt := 2) hx hb dX9_copies_60 (by decide) ?_
      exact hkb _ _ _ _ _ hw _ _ hM hS _ (lv_sub hl [1, 2, 3, 0] rfl)
def w9_copies (post : VV → AA → Prop) (V : VV) (A : AA) (x1 x2 : Int32) : Prop :=
  ∃ n, w9_copies_2 post  n V A x1 x2 0
set_option maxHeartbeats 4000000 in
set_option maxRecDepth 100000 in
theorem m9_copies (l : Launch) (g : MG) (V : VV) (A : AA) (x1 x2 : Int32) (post : VV → AA → Prop) (hI : HI g) (hw : w9_copies post V A x1 x2) : Met l yX9_copies (ws_ yX9_copies cX9_copies 4 none) rm9_copies (MPc g V A [.ref (mh g), .int x1, .int x2]) (MQv g post) 0 0 (HA g) := by
  refine Met.ofW (cc := cX9_copies) (maxL := 4) (ret := none) (by decide) rfl ?_
  intro p e s m args below meth c s₁ B hml hv
  obtain ⟨rfl, hK, hM⟩ := hv
  have hx := B.exec
  have hb := B.bytes
  have hr : meth.sig.returnType = none := B.returns
  have hts := atoms_spec (ws := ws_ yX9_copies cX9_copies 4 none) B.pre
  have hts : ∀ w ∈ lw_all, w.before _ s = true := fun w h => hts w (List.mem_cons_of_mem _ h)
  have hown : s.vm.findClass RX9 = some m.cls := findClass_of_methodNamed B.named
  have hlocks : meth.locks = false := B.notSynchronized
  have S : CallFix p m c cX9_copies 4 s _ lw_all RX9 := ⟨hx, hb, hml, hown, hts⟩
  have hS : va_S (HA g) s.heap s.heap [] := va_S.rf
  have hl := lv_entry ([.ref (mh g), .int x1, .int x2]) (n := 4) (Nat.le_of_ble_eq_true rfl)
  rw [lg_entry_eq]
  generalize (lg_sl ([.ref (mh g), .int x1, .int x2]) ++ List.replicate (4 - (lg_sl ([.ref (mh g), .int x1, .int x2])).length) Slot.unset).toArray = ls at hl ⊢
  have hl : lv_has ls 4 [(0, .ref (mh g)), (1, .int x1), (2, .int x2)] := hl
  unfold w9_copies at hw
  refine lv_iconst (v := 0) hx hb dX9_copies_0 (by decide) ?_
  refine lv_istore_n (lv' := [(3, .int 0), (0, .ref (mh g)), (1, .int x1), (2, .int x2)]) hx hb dX9_copies_1 rfl hl (by decide) rfl (fun ls hl => ?_)
  obtain ⟨n, hw⟩ := hw
  refine r9_copies_2 S hr hlocks hK hI  n _ _ _ _ _ hw _ _ hM hS _ (lv_sub hl [1, 2, 3, 0] rfl)
/-! FarTypewriterModel.adds(I)V -/
abbrev rm9_adds : Room := { frames := 0, cells := 0, slots := 0, locals := 0 }
def w9_adds (post : VV → AA → Prop) (V : VV) (A : AA) (x1 : Int32) : Prop :=
  vp_in (V 34) 1100 ∧ post (vu V 34 ((V 34) + 1)) (au A 33 (V 34).toNatClampNeg x1)
set_option maxHeartbeats 4000000 in
set_option maxRecDepth 100000 in
theorem m9_adds (l : Launch) (g : MG) (V : VV) (A : AA) (x1 : Int32) (post : VV → AA → Prop) (hI : HI g) (hw : w9_adds post V A x1) : Met l yX9_adds (ws_ yX9_adds cX9_adds 2 none) rm9_adds (MPc g V A [.ref (mh g), .int x1]) (MQv g post) 0 0 (HA g) := by
  refine Met.ofW (cc := cX9_adds) (maxL := 2) (ret := none) (by decide) rfl ?_
  intro p e s m args below meth c s₁ B hml hv
  obtain ⟨rfl, hK, hM⟩ := hv
  have hx := B.exec
  have hb := B.bytes
  have hr : meth.sig.returnType = none := B.returns
  have hts := atoms_spec (ws := ws_ yX9_adds cX9_adds 2 none) B.pre
  have hts : ∀ w ∈ lw_all, w.before _ s = true := fun w h => hts w (List.mem_cons_of_mem _ h)
  have hown : s.vm.findClass RX9 = some m.cls := findClass_of_methodNamed B.named
  have hlocks : meth.locks = false := B.notSynchronized
  have S : CallFix p m c cX9_adds 2 s _ lw_all RX9 := ⟨hx, hb, hml, hown, hts⟩
  have hS : va_S (HA g) s.heap s.heap [] := va_S.rf
  have hl := lv_entry ([.ref (mh g), .int x1]) (n := 2) (Nat.le_of_ble_eq_true rfl)
  rw [lg_entry_eq]
  generalize (lg_sl ([.ref (mh g), .int x1]) ++ List.replicate (2 - (lg_sl ([.ref (mh g), .int x1])).length) Slot.unset).toArray = ls at hl ⊢
  have hl : lv_has ls 2 [(0, .ref (mh g)), (1, .int x1)] := hl
  unfold w9_adds at hw
  refine lv_aload_n hx hb dX9_adds_0 rfl (lv_at hl 0 rfl) ?_
  refine mo_geta S hK hM 33 (by decide) q812 dX9_adds_1 rfl ?_
  refine lv_aload_n hx hb dX9_adds_4 rfl (lv_at hl 0 rfl) ?_
  refine mo_geti S hK hM 34 (by decide) q813 dX9_adds_5 rfl ?_
  refine lv_iload_n hx hb dX9_adds_8 rfl (lv_at hl 1 rfl) ?_
  have hin := hw.1
  have hw := hw.2
  refine mo_ast S hK hI hM hS 33 rfl hin dX9_adds_9 (fun H locs hM hS => ?_)
  refine lv_aload_n hx hb dX9_adds_10 rfl (lv_at hl 0 rfl) ?_
  refine lv_dup hx hb dX9_adds_11 rfl ?_
  refine mo_geti S hK hM 34 (by decide) q813 dX9_adds_12 rfl ?_
  refine lv_iconst (v := 1) hx hb dX9_adds_15 (by decide) ?_
  refine lv_iadd hx hb dX9_adds_16 ?_
  refine mo_put S hK hI hM hS 34 (by decide) q813 dX9_adds_17 rfl rfl ⟨rfl, rfl⟩ (fun H locs hM hS => ?_)
  exact mo_vret S hr hlocks hM hS hw dX9_adds_20
/-! FarTypewriterModel.addsTwo(I)V -/
abbrev rm9_addsTwo : Room := { frames := 1, cells := 0, slots := 0, locals := 21 }
def w9_addsTwo (post : VV → AA → Prop) (V : VV) (A : AA) (x1 : Int32) : Prop :=
  w9_adds (fun (V1 : VV) (A2 : AA) => w9_adds (fun (V4 : VV) (A5 : AA) => post V4 A5) V1 A2 (x1 - x1 / 256 * 256)) V A (x1 / 256)
set_option maxHeartbeats 4000000 in
set_option maxRecDepth 100000 in
theorem m9_addsTwo (l : Launch) (g : MG) (V : VV) (A : AA) (x1 : Int32) (post : VV → AA → Prop) (hI : HI g) (hw : w9_addsTwo post V A x1) : Met l yX9_addsTwo (ws_ yX9_addsTwo cX9_addsTwo 2 none) rm9_addsTwo (MPc g V A [.ref (mh g), .int x1]) (MQv g post) 0 0 (HA g) := by
  refine Met.ofW (cc := cX9_addsTwo) (maxL := 2) (ret := none) (by decide) rfl ?_
  intro p e s m args below meth c s₁ B hml hv
  obtain ⟨rfl, hK, hM⟩ := hv
  have hx := B.exec
  have hb := B.bytes
  have hr : meth.sig.returnType = none := B.returns
  have hts := atoms_spec (ws := ws_ yX9_addsTwo cX9_addsTwo 2 none) B.pre
  have hts : ∀ w ∈ lw_all, w.before _ s = true := fun w h => hts w (List.mem_cons_of_mem _ h)
  have hown : s.vm.findClass RX9 = some m.cls := findClass_of_methodNamed B.named
  have hlocks : meth.locks = false := B.notSynchronized
  have S : CallFix p m c cX9_addsTwo 2 s _ lw_all RX9 := ⟨hx, hb, hml, hown, hts⟩
  have hS : va_S (HA g) s.heap s.heap [] := va_S.rf
  have hl := lv_entry ([.ref (mh g), .int x1]) (n := 2) (Nat.le_of_ble_eq_true rfl)
  rw [lg_entry_eq]
  generalize (lg_sl ([.ref (mh g), .int x1]) ++ List.replicate (2 - (lg_sl ([.ref (mh g), .int x1])).length) Slot.unset).toArray = ls at hl ⊢
  have hl : lv_has ls 2 [(0, .ref (mh g)), (1, .int x1)] := hl
  unfold w9_addsTwo at hw
  refine lv_aload_n hx hb dX9_addsTwo_0 rfl (lv_at hl 0 rfl) ?_
  refine lv_iload_n hx hb dX9_addsTwo_1 rfl (lv_at hl 1 rfl) ?_
  refine lv_sipush (v := 256) hx hb dX9_addsTwo_2 (by decide) ?_
  refine lv_idiv hx hb dX9_addsTwo_5 (by decide) ?_
  refine mo_callv (As := [.int (x1 / 256)]) S hK hM hS (m9_adds l g V A (x1 / 256) _ hI hw) (cwV 1 hts (lw_V q988 q990 qs25 q64 q991) rfl rfl rfl (by decide +kernel) ⟨Nat.le_of_ble_eq_true rfl, Nat.le_of_ble_eq_true rfl⟩) rfl hl.1 rfl (lv_room (Nat.le_of_ble_eq_true rfl)) dX9_addsTwo_6 ⟨Nat.zero_le _, Nat.zero_le _⟩ (fun V1 A2 H locs hw hM hS => ?_)
  refine lv_aload_n hx hb dX9_addsTwo_9 rfl (lv_at hl 0 rfl) ?_
  refine lv_iload_n hx hb dX9_addsTwo_10 rfl (lv_at hl 1 rfl) ?_
  refine lv_sipush (v := 256) hx hb dX9_addsTwo_11 (by decide) ?_
  refine lv_irem hx hb dX9_addsTwo_14 (by decide) ?_
  refine mo_callv (As := [.int (x1 - x1 / 256 * 256)]) S hK hM hS (m9_adds l g V1 A2 (x1 - x1 / 256 * 256) _ hI hw) (cwV 1 hts (lw_V q988 q990 qs25 q64 q991) rfl rfl rfl (by decide +kernel) ⟨Nat.le_of_ble_eq_true rfl, Nat.le_of_ble_eq_true rfl⟩) rfl hl.1 rfl (lv_room (Nat.le_of_ble_eq_true rfl)) dX9_addsTwo_15 ⟨Nat.zero_le _, Nat.zero_le _⟩ (fun V4 A5 H locs hw hM hS => ?_)
  exact mo_vret S hr hlocks hM hS hw dX9_addsTwo_18
/-! FarTypewriterModel.stateOf(III)I -/
abbrev rm9_stateOf : Room := { frames := 0, cells := 0, slots := 0, locals := 0 }
def b9_stateOf_3 (post : Int32 → VV → AA → Prop)  (kb : VV → AA → Int32 → Int32 → Int32 → Int32 → Prop) (V : VV) (A : AA) (x1 x2 x3 x4 : Int32) : Prop :=
  (x2 ≤ x4 → post (-1) V A) ∧ (¬ x2 ≤ x4 → vp_in (x1 + x4) 69 ∧ (((A 4 (x1 + x4).toNatClampNeg) = x3 → post (x1 + x4) V A) ∧ (¬ (A 4 (x1 + x4).toNatClampNeg) = x3 → kb V A x1 x2 x3 (x4 + 1))))
def w9_stateOf_3 (post : Int32 → VV → AA → Prop)  : Nat → VV → AA → Int32 → Int32 → Int32 → Int32 → Prop
  | 0 => fun _ _ _ _ _ _ => False
  | n + 1 => b9_stateOf_3 post  (w9_stateOf_3 post  n)
set_option maxHeartbeats 4000000 in
set_option maxRecDepth 100000 in
theorem r9_stateOf_3 {p : Program} {l : Launch} {e : Env} {s : State} {m : MethodId} {args : Array Value} {below : List Frame} {meth : Method} {c : Code} {g : MG} (S : CallFix p m c cX9_stateOf 5 s args lw_all RX9) (hr : meth.sig.returnType = (some .int)) (hlocks : meth.locks = false) (hK : KM g s) (hI : HI g) {post : Int32 → VV → AA → Prop}  : ∀ n : Nat, ∀ (V : VV) (A : AA) (x1 x2 x3 x4 : Int32), w9_stateOf_3 post  n V A x1 x2 x3 x4 → ∀ (H : Heap) (locs : List Loc), HM g V A H → va_S (HA g) s.heap H locs → ∀ (ls : Array Slot), lv_has ls 5 [(0, .ref (mh g)), (1, .int x1), (2, .int x2), (3, .int x3), (4, .int x4)] → W p l e rm9_stateOf s m args below meth c H locs 0 0 (MQ below (MQi g post) args s 0 0 (HA g)) (F0 m 3 ls []) := by
  have hx := S.1
  have hb := S.2.1
  have hown := S.2.2.2.1
  have hts := S.2.2.2.2
  intro n
  induction n with
  | zero =>
    intro V A x1 x2 x3 x4 hw
    exact hw.elim
  | succ n hkb =>
    intro V A x1 x2 x3 x4 hw H locs hM hS ls hl
    unfold w9_stateOf_3 b9_stateOf_3 at hw
    refine lv_iload hx hb dX9_stateOf_3 (lv_at hl 4 rfl) ?_
    refine lv_iload_n hx hb dX9_stateOf_5 rfl (lv_at hl 2 rfl) ?_
    refine lv_icmp_ge (tgt := 33) hx hb dX9_stateOf_6 (by decide) (fun c1 => ?_) (fun c1 => ?_)
    · have hw := hw.1 c1
      refine lv_iconst (v := (-1)) hx hb dX9_stateOf_33 (by decide) ?_
      exact mo_iret S hr hlocks hM hS hw dX9_stateOf_34
    · have hw := hw.2 c1
      refine lv_aload_n hx hb dX9_stateOf_9 rfl (lv_at hl 0 rfl) ?_
      refine mo_geta S hK hM 4 (by decide) q783 dX9_stateOf_10 rfl ?_
      refine lv_iload_n hx hb dX9_stateOf_13 rfl (lv_at hl 1 rfl) ?_
      refine lv_iload hx hb dX9_stateOf_14 (lv_at hl 4 rfl) ?_
      refine lv_iadd hx hb dX9_stateOf_16 ?_
      have hin := hw.1
      have hw := hw.2
      refine mo_ald S hK hM 4 rfl hin dX9_stateOf_17 ?_
      refine lv_iload_n hx hb dX9_stateOf_18 rfl (lv_at hl 3 rfl) ?_
      refine lv_icmp_ne (tgt := 27) hx hb dX9_stateOf_19 (by decide) (fun c2 => ?_) (fun c2 => ?_)
      · have hw := hw.2 c2
        refine lv_iinc (v := x4 + 1) (lv' := [(4, .int (x4 + 1)), (0, .ref (mh g)), (1, .int x1), (2, .int x2), (3, .int x3)]) hx hb dX9_stateOf_27 hl (k := 4) rfl rfl (by decide) rfl (fun ls hl => ?_)
        refine lv_goto (tgt := 3) hx hb dX9_stateOf_30 (by decide) ?_
        exact hkb _ _ _ _ _ _ hw _ _ hM hS _ (lv_sub hl [1, 2, 3, 4, 0] rfl)
      · have hw := hw.1 c2
        refine lv_iload_n hx hb dX9_stateOf_22 rfl (lv_at hl 1 rfl) ?_
        refine lv_iload hx hb dX9_stateOf_23 (lv_at hl 4 rfl) ?_
        refine lv_iadd hx hb dX9_stateOf_25 ?_
        exact mo_iret S hr hlocks hM hS hw dX9_stateOf_26
def w9_stateOf (post : Int32 → VV → AA → Prop) (V : VV) (A : AA) (x1 x2 x3 : Int32) : Prop :=
  ∃ n, w9_stateOf_3 post  n V A x1 x2 x3 0
set_option maxHeartbeats 4000000 in
set_option maxRecDepth 100000 in
theorem m9_stateOf (l : Launch) (g : MG) (V : VV) (A : AA) (x1 x2 x3 : Int32) (post : Int32 → VV → AA → Prop) (hI : HI g) (hw : w9_stateOf post V A x1 x2 x3) : Met l yX9_stateOf (ws_ yX9_stateOf cX9_stateOf 5 (some .int)) rm9_stateOf (MPc g V A [.ref (mh g), .int x1, .int x2, .int x3]) (MQi g post) 0 0 (HA g) := by
  refine Met.ofW (cc := cX9_stateOf) (maxL := 5) (ret := (some .int)) (by decide) rfl ?_
  intro p e s m args below meth c s₁ B hml hv
  obtain ⟨rfl, hK, hM⟩ := hv
  have hx := B.exec
  have hb := B.bytes
  have hr : meth.sig.returnType = (some .int) := B.returns
  have hts := atoms_spec (ws := ws_ yX9_stateOf cX9_stateOf 5 (some .int)) B.pre
  have hts : ∀ w ∈ lw_all, w.before _ s = true := fun w h => hts w (List.mem_cons_of_mem _ h)
  have hown : s.vm.findClass RX9 = some m.cls := findClass_of_methodNamed B.named
  have hlocks : meth.locks = false := B.notSynchronized
  have S : CallFix p m c cX9_stateOf 5 s _ lw_all RX9 := ⟨hx, hb, hml, hown, hts⟩
  have hS : va_S (HA g) s.heap s.heap [] := va_S.rf
  have hl := lv_entry ([.ref (mh g), .int x1, .int x2, .int x3]) (n := 5) (Nat.le_of_ble_eq_true rfl)
  rw [lg_entry_eq]
  generalize (lg_sl ([.ref (mh g), .int x1, .int x2, .int x3]) ++ List.replicate (5 - (lg_sl ([.ref (mh g), .int x1, .int x2, .int x3])).length) Slot.unset).toArray = ls at hl ⊢
  have hl : lv_has ls 5 [(0, .ref (mh g)), (1, .int x1), (2, .int x2), (3, .int x3)] := hl
  unfold w9_stateOf at hw
  refine lv_iconst (v := 0) hx hb dX9_stateOf_0 (by decide) ?_
  refine lv_istore (lv' := [(4, .int 0), (0, .ref (mh g)), (1, .int x1), (2, .int x2), (3, .int x3)]) hx hb dX9_stateOf_1 hl (by decide) rfl (fun ls hl => ?_)
  obtain ⟨n, hw⟩ := hw
  refine r9_stateOf_3 S hr hlocks hK hI  n _ _ _ _ _ _ hw _ _ hM hS _ (lv_sub hl [1, 2, 3, 4, 0] rfl)
/-! FarTypewriterModel.differs(III)Z -/
abbrev rm9_differs : Room := { frames := 0, cells := 0, slots := 0, locals := 0 }
def w9_differs_102 (post : Int32 → VV → AA → Prop) (kb : VV → AA → Int32 → Int32 → Int32 → Int32 → Prop) (V : VV) (A : AA) (x1 x2 x3 x4 : Int32) : Prop :=
  kb V A x1 x2 x3 (x4 + 1)
set_option maxHeartbeats 4000000 in
set_option maxRecDepth 100000 in
theorem r9_differs_102 {p : Program} {l : Launch} {e : Env} {s : State} {m : MethodId} {args : Array Value} {below : List Frame} {meth : Method} {c : Code} {g : MG} (S : CallFix p m c cX9_differs 7 s args lw_all RX9) (hr : meth.sig.returnType = (some .boolean)) (hlocks : meth.locks = false) (hK : KM g s) (hI : HI g) {post : Int32 → VV → AA → Prop} {kb : VV → AA → Int32 → Int32 → Int32 → Int32 → Prop} (hkb : ∀ (V : VV) (A : AA) (x1 x2 x3 x4 : Int32), kb V A x1 x2 x3 x4 → ∀ (H : Heap) (locs : List Loc), HM g V A H → va_S (HA g) s.heap H locs → ∀ (ls : Array Slot), lv_has ls 7 [(0, .ref (mh g)), (1, .int x1), (2, .int x2), (3, .int x3), (4, .int x4)] → W p l e rm9_differs s m args below meth c H locs 0 0 (MQ below (MQi g post) args s 0 0 (HA g)) (F0 m 8 ls [])) : ∀ (V : VV) (A : AA) (x1 x2 x3 x4 : Int32), w9_differs_102 post kb V A x1 x2 x3 x4 → ∀ (H : Heap) (locs : List Loc), HM g V A H → va_S (HA g) s.heap H locs → ∀ (ls : Array Slot), lv_has ls 7 [(0, .ref (mh g)), (1, .int x1), (2, .int x2), (3, .int x3), (4, .int x4)] → W p l e rm9_differs s m args below meth c H locs 0 0 (MQ below (MQi g post) args s 0 0 (HA g)) (F0 m 102 ls []) := by
  have hx := S.1
  have hb := S.2.1
  have hown := S.2.2.2.1
  have hts := S.2.2.2.2
  intro V A x1 x2 x3 x4 hw H locs hM hS ls hl
  unfold w9_differs_102 at hw
  refine lv_iinc (v := x4 + 1) (lv' := [(4, .int (x4 + 1)), (0, .ref (mh g)), (1, .int x1), (2, .int x2), (3, .int x3)]) hx hb dX9_differs_102 hl (k := 4) rfl rfl (by decide) rfl (fun ls hl => ?_)
  refine lv_goto (tgt := 8) hx hb dX9_differs_105 (by decide) ?_
  exact hkb _ _ _ _ _ _ hw _ _ hM hS _ (lv_sub hl [1, 2, 3, 4, 0] rfl)
def w9_differs_96 (post : Int32 → VV → AA → Prop) (kb : VV → AA → Int32 → Int32 → Int32 → Int32 → Prop) (V : VV) (A : AA) (x1 x2 x3 x4 : Int32) : Prop :=
  w9_differs_102 post kb (vu V 36 x4) A x1 x2 x3 x4
set_option maxHeartbeats 4000000 in
set_option maxRecDepth 100000 in
theorem r9_differs_96 {p : Program} {l : Launch} {e : Env} {s : State} {m : MethodId} {args : Array Value} {below : List Frame} {meth : Method} {c : Code} {g : MG} (S : CallFix p m c cX9_differs 7 s args lw_all RX9) (hr : meth.sig.returnType = (some .boolean)) (hlocks : meth.locks = false) (hK : KM g s) (hI : HI g) {post : Int32 → VV → AA → Prop} {kb : VV → AA → Int32 → Int32 → Int32 → Int32 → Prop} (hkb : ∀ (V : VV) (A : AA) (x1 x2 x3 x4 : Int32), kb V A x1 x2 x3 x4 → ∀ (H : Heap) (locs : List Loc), HM g V A H → va_S (HA g) s.heap H locs → ∀ (ls : Array Slot), lv_has ls 7 [(0, .ref (mh g)), (1, .int x1), (2, .int x2), (3, .int x3), (4, .int x4)] → W p l e rm9_differs s m args below meth c H locs 0 0 (MQ below (MQi g post) args s 0 0 (HA g)) (F0 m 8 ls [])) : ∀ (V : VV) (A : AA) (x1 x2 x3 x4 : Int32), w9_differs_96 post kb V A x1 x2 x3 x4 → ∀ (H : Heap) (locs : List Loc), HM g V A H → va_S (HA g) s.heap H locs → ∀ (ls : Array Slot), lv_has ls 7 [(0, .ref (mh g)), (1, .int x1), (2, .int x2), (3, .int x3), (4, .int x4)] → W p l e rm9_differs s m args below meth c H locs 0 0 (MQ below (MQi g post) args s 0 0 (HA g)) (F0 m 96 ls []) := by
  have hx := S.1
  have hb := S.2.1
  have hown := S.2.2.2.1
  have hts := S.2.2.2.2
  intro V A x1 x2 x3 x4 hw H locs hM hS ls hl
  unfold w9_differs_96 at hw
  refine lv_aload_n hx hb dX9_differs_96 rfl (lv_at hl 0 rfl) ?_
  refine lv_iload hx hb dX9_differs_97 (lv_at hl 4 rfl) ?_
  refine mo_put S hK hI hM hS 36 (by decide) q815 dX9_differs_99 rfl rfl ⟨rfl, rfl⟩ (fun H locs hM hS => ?_)
  exact r9_differs_102 S hr hlocks hK hI hkb _ _ _ _ _ _ hw _ _ hM hS _ (lv_sub hl [0, 1, 2, 3, 4] rfl)
def w9_differs_82 (post : Int32 → VV → AA → Prop) (kb : VV → AA → Int32 → Int32 → Int32 → Int32 → Prop) (V : VV) (A : AA) (x1 x2 x3 x4 : Int32) : Prop :=
  ((V 35) = (-1) → w9_differs_96 post kb (vu V 35 x4) A x1 x2 x3 x4) ∧ (¬ (V 35) = (-1) → w9_differs_96 post kb V A x1 x2 x3 x4)
set_option maxHeartbeats 4000000 in
set_option maxRecDepth 100000 in
theorem r9_differs_82 {p : Program} {l : Launch} {e : Env} {s : State} {m : MethodId} {args : Array Value} {below : List Frame} {meth : Method} {c : Code} {g : MG} (S : CallFix p m c cX9_differs 7 s args lw_all RX9) (hr : meth.sig.returnType = (some .boolean)) (hlocks : meth.locks = false) (hK : KM g s) (hI : HI g) {post : Int32 → VV → AA → Prop} {kb : VV → AA → Int32 → Int32 → Int32 → Int32 → Prop} (hkb : ∀ (V : VV) (A : AA) (x1 x2 x3 x4 : Int32), kb V A x1 x2 x3 x4 → ∀ (H : Heap) (locs : List Loc), HM g V A H → va_S (HA g) s.heap H locs → ∀ (ls : Array Slot), lv_has ls 7 [(0, .ref (mh g)), (1, .int x1), (2, .int x2), (3, .int x3), (4, .int x4)] → W p l e rm9_differs s m args below meth c H locs 0 0 (MQ below (MQi g post) args s 0 0 (HA g)) (F0 m 8 ls [])) : ∀ (V : VV) (A : AA) (x1 x2 x3 x4 : Int32), w9_differs_82 post kb V A x1 x2 x3 x4 → ∀ (H : Heap) (locs : List Loc), HM g V A H → va_S (HA g) s.heap H locs → ∀ (ls : Array Slot), lv_has ls 7 [(0, .ref (mh g)), (1, .int x1), (2, .int x2), (3, .int x3), (4, .int x4)] → W p l e rm9_differs s m args below meth c H locs 0 0 (MQ below (MQi g post) args s 0 0 (HA g)) (F0 m 82 ls []) := by
  have hx := S.1
  have hb := S.2.1
  have hown := S.2.2.2.1
  have hts := S.2.2.2.2
  intro V A x1 x2 x3 x4 hw H locs hM hS ls hl
  unfold w9_differs_82 at hw
  refine lv_aload_n hx hb dX9_differs_82 rfl (lv_at hl 0 rfl) ?_
  refine mo_geti S hK hM 35 (by decide) q814 dX9_differs_83 rfl ?_
  refine lv_iconst (v := (-1)) hx hb dX9_differs_86 (by decide) ?_
  refine lv_icmp_ne (tgt := 96) hx hb dX9_differs_87 (by decide) (fun c6 => ?_) (fun c6 => ?_)
  · have hw := hw.2 c6
    exact r9_differs_96 S hr hlocks hK hI hkb _ _ _ _ _ _ hw _ _ hM hS _ (lv_sub hl [0, 1, 2, 3, 4] rfl)
  · have hw := hw.1 c6
    refine lv_aload_n hx hb dX9_differs_90 rfl (lv_at hl 0 rfl) ?_
    refine lv_iload hx hb dX9_differs_91 (lv_at hl 4 rfl) ?_
    refine mo_put S hK hI hM hS 35 (by decide) q814 dX9_differs_93 rfl rfl ⟨rfl, rfl⟩ (fun H locs hM hS => ?_)
    exact r9_differs_96 S hr hlocks hK hI hkb _ _ _ _ _ _ hw _ _ hM hS _ (lv_sub hl [0, 1, 2, 3, 4] rfl)
def b9_differs_8 (post : Int32 → VV → AA → Prop)  (kb : VV → AA → Int32 → Int32 → Int32 → Int32 → Prop) (V : VV) (A : AA) (x1 x2 x3 x4 : Int32) : Prop :=
  (24 ≤ x4 → ((V 35) = (-1) → post 0 V A) ∧ (¬ (V 35) = (-1) → post 1 V A)) ∧ (¬ 24 ≤ x4 → ∀ y5_3 : Int32, y5_3 = ((192 * x1) + (24 * x3)) + x4 → (∀ y6_4 : Int32, y6_4 = ((192 * x2) + (24 * x3)) + x4 → (vp_in y5_3 13248 ∧ (vp_in y6_4 13248 ∧ (((A 0 y5_3.toNatClampNeg) = (A 0 y6_4.toNatClampNeg) → vp_in y5_3 13248 ∧ (vp_in y6_4 13248 ∧ (((A 1 y5_3.toNatClampNeg) = (A 1 y6_4.toNatClampNeg) → w9_differs_102 post kb V A x1 x2 x3 x4) ∧ (¬ (A 1 y5_3.toNatClampNeg) = (A 1 y6_4.toNatClampNeg) → w9_differs_82 post kb V A x1 x2 x3 x4)))) ∧ (¬ (A 0 y5_3.toNatClampNeg) = (A 0 y6_4.toNatClampNeg) → w9_differs_82 post kb V A x1 x2 x3 x4))))))
def w9_differs_8 (post : Int32 → VV → AA → Prop)  : Nat → VV → AA → Int32 → Int32 → Int32 → Int32 → Prop
  | 0 => fun _ _ _ _ _ _ => False
  | n + 1 => b9_differs_8 post  (w9_differs_8 post  n)
set_option maxHeartbeats 4000000 in
set_option maxRecDepth 100000 in
theorem r9_differs_8 {p : Program} {l : Launch} {e : Env} {s : State} {m : MethodId} {args : Array Value} {below : List Frame} {meth : Method} {c : Code} {g : MG} (S : CallFix p m c cX9_differs 7 s args lw_all RX9) (hr : meth.sig.returnType = (some .boolean)) (hlocks : meth.locks = false) (hK : KM g s) (hI : HI g) {post : Int32 → VV → AA → Prop}  : ∀ n : Nat, ∀ (V : VV) (A : AA) (x1 x2 x3 x4 : Int32), w9_differs_8 post  n V A x1 x2 x3 x4 → ∀ (H : Heap) (locs : List Loc), HM g V A H → va_S (HA g) s.heap H locs → ∀ (ls : Array Slot), lv_has ls 7 [(0, .ref (mh g)), (1, .int x1), (2, .int x2), (3, .int x3), (4, .int x4)] → W p l e rm9_differs s m args below meth c H locs 0 0 (MQ below (MQi g post) args s 0 0 (HA g)) (F0 m 8 ls []) := by
  have hx := S.1
  have hb := S.2.1
  have hown := S.2.2.2.1
  have hts := S.2.2.2.2
  intro n
  induction n with
  | zero =>
    intro V A x1 x2 x3 x4 hw
    exact hw.elim
  | succ n hkb =>
    intro V A x1 x2 x3 x4 hw H locs hM hS ls hl
    unfold w9_differs_8 b9_differs_8 at hw
    refine lv_iload hx hb dX9_differs_8 (lv_at hl 4 rfl) ?_
    refine lv_bipush (v := 24) hx hb dX9_differs_10 (by decide) ?_
    refine lv_icmp_ge (tgt := 108) hx hb dX9_differs_12 (by decide) (fun c1 => ?_) (fun c1 => ?_)
    · have hw := hw.1 c1
      refine lv_aload_n hx hb dX9_differs_108 rfl (lv_at hl 0 rfl) ?_
      refine mo_geti S hK hM 35 (by decide) q814 dX9_differs_109 rfl ?_
      refine lv_iconst (v := (-1)) hx hb dX9_differs_112 (by decide) ?_
      refine lv_icmp_eq (tgt := 120) hx hb dX9_differs_113 (by decide) (fun c2 => ?_) (fun c2 => ?_)
      · have hw := hw.1 c2
        refine lv_iconst (v := 0) hx hb dX9_differs_120 (by decide) ?_
        exact mo_zret S hr hlocks hM hS rfl hw dX9_differs_121
      · have hw := hw.2 c2
        refine lv_iconst (v := 1) hx hb dX9_differs_116 (by decide) ?_
        refine lv_goto (tgt := 121) hx hb dX9_differs_117 (by decide) ?_
        exact mo_zret S hr hlocks hM hS rfl hw dX9_differs_121
    · have hw := hw.2 c1
      refine lv_sipush (v := 192) hx hb dX9_differs_15 (by decide) ?_
      refine lv_iload_n hx hb dX9_differs_18 rfl (lv_at hl 1 rfl) ?_
      refine lv_imul hx hb dX9_differs_19 ?_
      refine lv_bipush (v := 24) hx hb dX9_differs_20 (by decide) ?_
      refine lv_iload_n hx hb dX9_differs_22 rfl (lv_at hl 3 rfl) ?_
      refine lv_imul hx hb dX9_differs_23 ?_
      refine lv_iadd hx hb dX9_differs_24 ?_
      refine lv_iload hx hb dX9_differs_25 (lv_at hl 4 rfl) ?_
      refine lv_iadd hx hb dX9_differs_27 ?_
      refine lv_topi (fun y5_3 ey5_3 => ?_)
      have hw := hw y5_3 ey5_3
      refine lv_istore (lv' := [(5, .int y5_3), (0, .ref (mh g)), (1, .int x1), (2, .int x2), (3, .int x3), (4, .int x4)]) hx hb dX9_differs_28 hl (by decide) rfl (fun ls hl => ?_)
      refine lv_sipush (v := 192) hx hb dX9_differs_30 (by decide) ?_
      refine lv_iload_n hx hb dX9_differs_33 rfl (lv_at hl 3 rfl) ?_
      refine lv_imul hx hb dX9_differs_34 ?_
      refine lv_bipush (v := 24) hx hb dX9_differs_35 (by decide) ?_
      refine lv_iload_n hx hb dX9_differs_37 rfl (lv_at hl 4 rfl) ?_
      refine lv_imul hx hb dX9_differs_38 ?_
      refine lv_iadd hx hb dX9_differs_39 ?_
      refine lv_iload hx hb dX9_differs_40 (lv_at hl 5 rfl) ?_
      refine lv_iadd hx hb dX9_differs_42 ?_
      refine lv_topi (fun y6_4 ey6_4 => ?_)
      have hw := hw y6_4 ey6_4
      refine lv_istore (lv' := [(6, .int y6_4), (5, .int y5_3), (0, .ref (mh g)), (1, .int x1), (2, .int x2), (3, .int x3), (4, .int x4)]) hx hb dX9_differs_43 hl (by decide) rfl (fun ls hl => ?_)
      refine lv_aload_n hx hb dX9_differs_45 rfl (lv_at hl 2 rfl) ?_
      refine mo_geta S hK hM 0 (by decide) q779 dX9_differs_46 rfl ?_
      refine lv_iload hx hb dX9_differs_49 (lv_at hl 1 rfl) ?_
      have hin := hw.1
      have hw := hw.2
      refine mo_ald S hK hM 0 rfl hin dX9_differs_51 ?_
      refine lv_aload_n hx hb dX9_differs_52 rfl (lv_at hl 2 rfl) ?_
      refine mo_geta S hK hM 0 (by decide) q779 dX9_differs_53 rfl ?_
      refine lv_iload hx hb dX9_differs_56 (lv_at hl 0 rfl) ?_
      have hin := hw.1
      have hw := hw.2
      refine mo_ald S hK hM 0 rfl hin dX9_differs_58 ?_
      refine lv_icmp_ne (tgt := 82) hx hb dX9_differs_59 (by decide) (fun c5 => ?_) (fun c5 => ?_)
      · have hw := hw.2 c5
        exact r9_differs_82 S hr hlocks hK hI hkb _ _ _ _ _ _ hw _ _ hM hS _ (lv_sub hl [2, 3, 4, 5, 6] rfl)
      · have hw := hw.1 c5
        refine lv_aload_n hx hb dX9_differs_62 rfl (lv_at hl 2 rfl) ?_
        refine mo_geta S hK hM 1 (by decide) q780 dX9_differs_63 rfl ?_
        refine lv_iload hx hb dX9_differs_66 (lv_at hl 1 rfl) ?_
        have hin := hw.1
        have hw := hw.2
        refine mo_ald S hK hM 1 rfl hin dX9_differs_68 ?_
        refine lv_aload_n hx hb dX9_differs_69 rfl (lv_at hl 2 rfl) ?_
        refine mo_geta S hK hM 1 (by decide) q780 dX9_differs_70 rfl ?_
        refine lv_iload hx hb dX9_differs_73 (lv_at hl 0 rfl) ?_
        have hin := hw.1
        have hw := hw.2
        refine mo_ald S hK hM 1 rfl hin dX9_differs_75 ?_
        refine lv_icmp_ne (tgt := 82) hx hb dX9_differs_76 (by decide) (fun c7 => ?_) (fun c7 => ?_)
        · have hw := hw.2 c7
          exact r9_differs_82 S hr hlocks hK hI hkb _ _ _ _ _ _ hw _ _ hM hS _ (lv_sub hl [2, 3, 4, 5, 6] rfl)
        · have hw := hw.1 c7
          refine lv_goto (tgt := 102) hx hb dX9_differs_79 (by decide) ?_
          exact r9_differs_102 S hr hlocks hK hI hkb _ _ _ _ _ _ hw _ _ hM hS _ (lv_sub hl [2, 3, 4, 5, 6] rfl)
def w9_differs (post : Int32 → VV → AA → Prop) (V : VV) (A : AA) (x1 x2 x3 : Int32) : Prop :=
  ∃ n, w9_differs_8 post  n (vu V 35 (-1)) A x1 x2 x3 0
set_option maxHeartbeats 4000000 in
set_option maxRecDepth 100000 in
theorem m9_differs (l : Launch) (g : MG) (V : VV) (A : AA) (x1 x2 x3 : Int32) (post : Int32 → VV → AA → Prop) (hI : HI g) (hw : w9_differs post V A x1 x2 x3) : Met l yX9_differs (ws_ yX9_differs cX9_differs 7 (some .boolean)) rm9_differs (MPc g V A [.ref (mh g), .int x1, .int x2, .int x3]) (MQi g post) 0 0 (HA g) := by
  refine Met.ofW (cc := cX9_differs) (maxL := 7) (ret := (some .boolean)) (by decide) rfl ?_
  intro p e s m args below meth c s₁ B hml hv
  obtain ⟨rfl, hK, hM⟩ := hv
  have hx := B.exec
  have hb := B.bytes
  have hr : meth.sig.returnType = (some .boolean) := B.returns
  have hts := atoms_spec (ws := ws_ yX9_differs cX9_differs 7 (some .boolean)) B.pre
  have hts : ∀ w ∈ lw_all, w.before _ s = true := fun w h => hts w (List.mem_cons_of_mem _ h)
  have hown : s.vm.findClass RX9 = some m.cls := findClass_of_methodNamed B.named
  have hlocks : meth.locks = false := B.notSynchronized
  have S : CallFix p m c cX9_differs 7 s _ lw_all RX9 := ⟨hx, hb, hml, hown, hts⟩
  have hS : va_S (HA g) s.heap s.heap [] := va_S.rf
  have hl := lv_entry ([.ref (mh g), .int x1, .int x2, .int x3]) (n := 7) (Nat.le_of_ble_eq_true rfl)
  rw [lg_entry_eq]
  generalize (lg_sl ([.ref (mh g), .int x1, .int x2, .int x3]) ++ List.replicate (7 - (lg_sl ([.ref (mh g), .int x1, .int x2, .int x3])).length) Slot.unset).toArray = ls at hl ⊢
  have hl : lv_has ls 7 [(0, .ref (mh g)), (1, .int x1), (2, .int x2), (3, .int x3)] := hl
  unfold w9_differs at hw
  refine lv_aload_n hx hb dX9_differs_0 rfl (lv_at hl 0 rfl) ?_
  refine lv_iconst (v := (-1)) hx hb dX9_differs_1 (by decide) ?_
  refine mo_put S hK hI hM hS 35 (by decide) q814 dX9_differs_2 rfl rfl ⟨rfl, rfl⟩ (fun H locs hM hS => ?_)
  refine lv_iconst (v := 0) hx hb dX9_differs_5 (by decide) ?_
  refine lv_istore (lv' := [(4, .int 0), (0, .ref (mh g)), (1, .int x1), (2, .int x2), (3, .int x3)]) hx hb dX9_differs_6 hl (by decide) rfl (fun ls hl => ?_)
  obtain ⟨n, hw⟩ := hw
  refine r9_differs_8 S hr hlocks hK hI  n _ _ _ _ _ _ hw _ _ hM hS _ (lv_sub hl [1, 2, 3, 4, 0] rfl)
