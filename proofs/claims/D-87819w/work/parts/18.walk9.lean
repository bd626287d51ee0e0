/-! FarTypewriterModel.cursor(II)I -/
abbrev rm9_cursor : Room := { frames := 2, cells := 0, slots := 0, locals := 45 }
def w9_cursor (post : Int32 → VV → AA → Prop) (V : VV) (A : AA) (x1 x2 : Int32) : Prop :=
  w9_screenOf (fun (r3 : Int32) (V1 : VV) (A2 : AA) => (r3 = (-1) → post (-1) V1 A2) ∧ (¬ r3 = (-1) → (x2 = 0 → vp_in r3 69 ∧ post (A2 2 r3.toNatClampNeg) V1 A2) ∧ (¬ x2 = 0 → (x2 = 1 → vp_in r3 69 ∧ post (A2 3 r3.toNatClampNeg) V1 A2) ∧ (¬ x2 = 1 → post (-1) V1 A2)))) V A x1
set_option maxHeartbeats 4000000 in
set_option maxRecDepth 100000 in
theorem m9_cursor (l : Launch) (g : MG) (V : VV) (A : AA) (x1 x2 : Int32) (post : Int32 → VV → AA → Prop) (hI : HI g) (hw : w9_cursor post V A x1 x2) : Met l yX9_cursor (ws_ yX9_cursor cX9_cursor 4 (some .int)) rm9_cursor (MPc g V A [.ref (mh g), .int x1, .int x2]) (MQi g post) 0 0 (HA g) := by
  refine Met.ofW (cc := cX9_cursor) (maxL := 4) (ret := (some .int)) (by decide) rfl ?_
  intro p e s m args below meth c s₁ B hml hv
  obtain ⟨rfl, hK, hM⟩ := hv
  have hx := B.exec
  have hb := B.bytes
  have hr : meth.sig.returnType = (some .int) := B.returns
  have hts := atoms_spec (ws := ws_ yX9_cursor cX9_cursor 4 (some .int)) B.pre
  have hts : ∀ w ∈ lw_all, w.before _ s = true := fun w h => hts w (List.mem_cons_of_mem _ h)
  have hown : s.vm.findClass RX9 = some m.cls := findClass_of_methodNamed B.named
  have hlocks : meth.locks = false := B.notSynchronized
  have S : CallFix p m c cX9_cursor 4 s _ lw_all RX9 := ⟨hx, hb, hml, hown, hts⟩
  have hS : va_S (HA g) s.heap s.heap [] := va_S.rf
  have hl := lv_entry ([.ref (mh g), .int x1, .int x2]) (n := 4) (Nat.le_of_ble_eq_true rfl)
  rw [lg_entry_eq]
  generalize (lg_sl ([.ref (mh g), .int x1, .int x2]) ++ List.replicate (4 - (lg_sl ([.ref (mh g), .int x1, .int x2])).length) Slot.unset).toArray = ls at hl ⊢
  have hl : lv_has ls 4 [(0, .ref (mh g)), (1, .int x1), (2, .int x2)] := hl
  unfold w9_cursor at hw
  refine lv_aload_n hx hb dX9_cursor_0 rfl (lv_at hl 0 rfl) ?_
  refine lv_iload_n hx hb dX9_cursor_1 rfl (lv_at hl 1 rfl) ?_
  refine mo_calli (As := [.int x1]) S hK hM hS (m9_screenOf l g V A x1 _ hI hw) (cwV 1 hts (lw_V q1118 q1120 qs52 q64 q1121) rfl rfl rfl (by decide +kernel) ⟨Nat.le_of_ble_eq_true rfl, Nat.le_of_ble_eq_true rfl⟩) rfl hl.1 rfl (lv_room (Nat.le_of_ble_eq_true rfl)) dX9_cursor_2 ⟨Nat.zero_le _, Nat.zero_le _⟩ (fun r3 V1 A2 H locs hw hM hS => ?_)
  refine lv_istore_n (lv' := [(3, .int r3), (0, .ref (mh g)), (1, .int x1), (2, .int x2)]) hx hb dX9_cursor_5 rfl hl (by decide) rfl (fun ls hl => ?_)
  refine lv_iload_n hx hb dX9_cursor_6 rfl (lv_at hl 0 rfl) ?_
  refine lv_iconst (v := (-1)) hx hb dX9_cursor_7 (by decide) ?_
  refine lv_icmp_ne (tgt := 13) hx hb dX9_cursor_8 (by decide) (fun c4 => ?_) (fun c4 => ?_)
  · have hw := hw.2 c4
    refine lv_iload_n hx hb dX9_cursor_13 rfl (lv_at hl 3 rfl) ?_
    refine lv_if_ne (tgt := 26) hx hb dX9_cursor_14 (by decide) (fun c5 => ?_) (fun c5 => ?_)
    · have hw := hw.2 c5
      refine lv_iload_n hx hb dX9_cursor_26 rfl (lv_at hl 3 rfl) ?_
      refine lv_iconst (v := 1) hx hb dX9_cursor_27 (by decide) ?_
      refine lv_icmp_ne (tgt := 40) hx hb dX9_cursor_28 (by decide) (fun c6 => ?_) (fun c6 => ?_)
      · have hw := hw.2 c6
        refine lv_iconst (v := (-1)) hx hb dX9_cursor_40 (by decide) ?_
        exact mo_iret S hr hlocks hM hS hw dX9_cursor_41
      · have hw := hw.1 c6
        refine lv_aload_n hx hb dX9_cursor_31 rfl (lv_at hl 1 rfl) ?_
        refine mo_geta S hK hM 3 (by decide) q782 dX9_cursor_32 rfl ?_
        refine lv_iload_n hx hb dX9_cursor_35 rfl (lv_at hl 0 rfl) ?_
        have hin := hw.1
        have hw := hw.2
        refine mo_ald S hK hM 3 rfl hin dX9_cursor_36 ?_
        refine lv_goto (tgt := 41) hx hb dX9_cursor_37 (by decide) ?_
        exact mo_iret S hr hlocks hM hS hw dX9_cursor_41
    · have hw := hw.1 c5
      refine lv_aload_n hx hb dX9_cursor_17 rfl (lv_at hl 1 rfl) ?_
      refine mo_geta S hK hM 2 (by decide) q781 dX9_cursor_18 rfl ?_
      refine lv_iload_n hx hb dX9_cursor_21 rfl (lv_at hl 0 rfl) ?_
      have hin := hw.1
      have hw := hw.2
      refine mo_ald S hK hM 2 rfl hin dX9_cursor_22 ?_
      refine lv_goto (tgt := 41) hx hb dX9_cursor_23 (by decide) ?_
      exact mo_iret S hr hlocks hM hS hw dX9_cursor_41
  · have hw := hw.1 c4
    refine lv_iconst (v := (-1)) hx hb dX9_cursor_11 (by decide) ?_
    exact mo_iret S hr hlocks hM hS hw dX9_cursor_12
/-! FarTypewriterModel.alike()Z -/
abbrev rm9_alike : Room := { frames := 1, cells := 0, slots := 0, locals := 23 }
def w9_alike (post : Int32 → VV → AA → Prop) (V : VV) (A : AA) : Prop :=
  w9_nearNewest (fun (r3 : Int32) (V1 : VV) (A2 : AA) => w9_sameCells (fun (r6 : Int32) (V4 : VV) (A5 : AA) => (r6 = 0 ∨ r6 = 1) ∧ post r6 V4 A5) V1 A2 0 r3) V A 
set_option maxHeartbeats 4000000 in
set_option maxRecDepth 100000 in
theorem m9_alike (l : Launch) (g : MG) (V : VV) (A : AA) (post : Int32 → VV → AA → Prop) (hI : HI g) (hw : w9_alike post V A ) : Met l yX9_alike (ws_ yX9_alike cX9_alike 1 (some .boolean)) rm9_alike (MPc g V A [.ref (mh g)]) (MQi g post) 0 0 (HA g) := by
  refine Met.ofW (cc := cX9_alike) (maxL := 1) (ret := (some .boolean)) (by decide) rfl ?_
  intro p e s m args below meth c s₁ B hml hv
  obtain ⟨rfl, hK, hM⟩ := hv
  have hx := B.exec
  have hb := B.bytes
  have hr : meth.sig.returnType = (some .boolean) := B.returns
  have hts := atoms_spec (ws := ws_ yX9_alike cX9_alike 1 (some .boolean)) B.pre
  have hts : ∀ w ∈ lw_all, w.before _ s = true := fun w h => hts w (List.mem_cons_of_mem _ h)
  have hown : s.vm.findClass RX9 = some m.cls := findClass_of_methodNamed B.named
  have hlocks : meth.locks = false := B.notSynchronized
  have S : CallFix p m c cX9_alike 1 s _ lw_all RX9 := ⟨hx, hb, hml, hown, hts⟩
  have hS : va_S (HA g) s.heap s.heap [] := va_S.rf
  have hl := lv_entry ([.ref (mh g)]) (n := 1) (Nat.le_of_ble_eq_true rfl)
  rw [lg_entry_eq]
  generalize (lg_sl ([.ref (mh g)]) ++ List.replicate (1 - (lg_sl ([.ref (mh g)])).length) Slot.unset).toArray = ls at hl ⊢
  have hl : lv_has ls 1 [(0, .ref (mh g))] := hl
  unfold w9_alike at hw
  refine lv_aload_n hx hb dX9_alike_0 rfl (lv_at hl 0 rfl) ?_
  refine lv_iconst (v := 0) hx hb dX9_alike_1 (by decide) ?_
  refine lv_aload_n hx hb dX9_alike_2 rfl (lv_at hl 0 rfl) ?_
  refine mo_calli (As := []) S hK hM hS (m9_nearNewest l g V A  _ hI hw) (cwV 0 hts (lw_V q1029 q1031 qs35 q64 q1032) rfl rfl rfl (by decide +kernel) ⟨Nat.le_of_ble_eq_true rfl, Nat.le_of_ble_eq_true rfl⟩) rfl hl.1 rfl (lv_room (Nat.le_of_ble_eq_true rfl)) dX9_alike_3 ⟨Nat.zero_le _, Nat.zero_le _⟩ (fun r3 V1 A2 H locs hw hM hS => ?_)
  refine mo_calli (As := [.int 0, .int r3]) S hK hM hS (m9_sameCells l g V1 A2 0 r3 _ hI hw) (cwV 2 hts (lw_V q980 q982 qs23 q64 q983) rfl rfl rfl (by decide +kernel) ⟨Nat.le_of_ble_eq_true rfl, Nat.le_of_ble_eq_true rfl⟩) rfl hl.1 rfl (lv_room (Nat.le_of_ble_eq_true rfl)) dX9_alike_6 ⟨Nat.zero_le _, Nat.zero_le _⟩ (fun r6 V4 A5 H locs hw hM hS => ?_)
  have hz := hw.1
  have hw := hw.2
  exact mo_zret S hr hlocks hM hS (mo_bool hz).1 hw dX9_alike_9
/-! FarTypewriterModel.state(II)I -/
abbrev rm9_state : Room := { frames := 1, cells := 0, slots := 0, locals := 20 }
def w9_state_20 (post : Int32 → VV → AA → Prop)  (V : VV) (A : AA) (x2 t0 : Int32) : Prop :=
  (x2 = 0 → (t0 = 0 → post (V 12) V A) ∧ (¬ t0 = 0 → post (V 21) V A)) ∧ (x2 = 1 → (t0 = 0 → post (V 13) V A) ∧ (¬ t0 = 0 → post (V 22) V A)) ∧ (x2 = 2 → (t0 = 0 → w9_farNewest (fun (r8 : Int32) (V6 : VV) (A7 : AA) => vp_in r8 69 ∧ post (A7 4 r8.toNatClampNeg) V6 A7) V A ) ∧ (¬ t0 = 0 → w9_nearNewest (fun (r11 : Int32) (V9 : VV) (A10 : AA) => vp_in r11 69 ∧ post (A10 4 r11.toNatClampNeg) V9 A10) V A )) ∧ (x2 = 3 → (t0 = 0 → post (V 14) V A) ∧ (¬ t0 = 0 → post (V 23) V A)) ∧ (x2 = 4 → (t0 = 0 → post (V 15) V A) ∧ (¬ t0 = 0 → post (V 24) V A)) ∧ (x2 = 5 → (t0 = 0 → ((V 17) = 0 → post 0 V A) ∧ (¬ (V 17) = 0 → post 1 V A)) ∧ (¬ t0 = 0 → ((V 26) = 0 → post 0 V A) ∧ (¬ (V 26) = 0 → post 1 V A))) ∧ (x2 = 6 → (t0 = 0 → post (V 18) V A) ∧ (¬ t0 = 0 → post (V 27) V A)) ∧ (x2 = 7 → (t0 = 0 → post (V 8) V A) ∧ (¬ t0 = 0 → post (V 28) V A)) ∧ (¬ x2 = 0 → ¬ x2 = 1 → ¬ x2 = 2 → ¬ x2 = 3 → ¬ x2 = 4 → ¬ x2 = 5 → ¬ x2 = 6 → ¬ x2 = 7 → post (-1) V A)
set_option maxHeartbeats 4000000 in
set_option maxRecDepth 100000 in
theorem r9_state_20 {p : Program} {l : Launch} {e : Env} {s : State} {m : MethodId} {args : Array Value} {below : List Frame} {meth : Method} {c : Code} {g : MG} (S : CallFix p m c cX9_state 4 s args lw_all RX9) (hr : meth.sig.returnType = (some .int)) (hlocks : meth.locks = false) (hK : KM g s) (hI : HI g) {post : Int32 → VV → AA → Prop}  : ∀ (V : VV) (A : AA) (x2 t0 : Int32), w9_state_20 post  V A x2 t0 → ∀ (H : Heap) (locs : List Loc), HM g V A H → va_S (HA g) s.heap H locs → ∀ (ls : Array Slot), lv_has ls 4 [(0, .ref (mh g)), (2, .int x2)] → W p l e rm9_state s m args below meth c H locs 0 0 (MQ below (MQi g post) args s 0 0 (HA g)) (F0 m 20 ls [.int t0]) := by
  have hx := S.1
  have hb := S.2.1
  have hown := S.2.2.2.1
  have hts := S.2.2.2.2
  intro V A x2 t0 hw H locs hM hS ls hl
  unfold w9_state_20 at hw
  refine lv_istore_n (lv' := [(3, .int t0), (0, .ref (mh g)), (2, .int x2)]) hx hb dX9_state_20 rfl hl (by decide) rfl (fun ls hl => ?_)
  refine lv_iload_n hx hb dX9_state_21 rfl (lv_at hl 2 rfl) ?_
  by_cases cs0 : x2 = 0
  · have hw := hw.1 cs0
    refine lv_tableIn (off := 46) (tgt := 68) hx hb dX9_state_22 (by rw [cs0]; decide) (by rw [cs0]; decide) (by rw [cs0]; decide) (by decide) ?_
    refine lv_iload_n hx hb dX9_state_68 rfl (lv_at hl 0 rfl) ?_
    refine lv_if_eq (tgt := 79) hx hb dX9_state_69 (by decide) (fun c3 => ?_) (fun c3 => ?_)
    · have hw := hw.1 c3
      refine lv_aload_n hx hb dX9_state_79 rfl (lv_at hl 1 rfl) ?_
      refine mo_geti S hK hM 12 (by decide) q791 dX9_state_80 rfl ?_
      exact mo_iret S hr hlocks hM hS hw dX9_state_83
    · have hw := hw.2 c3
      refine lv_aload_n hx hb dX9_state_72 rfl (lv_at hl 1 rfl) ?_
      refine mo_geti S hK hM 21 (by decide) q800 dX9_state_73 rfl ?_
      refine lv_goto (tgt := 83) hx hb dX9_state_76 (by decide) ?_
      exact mo_iret S hr hlocks hM hS hw dX9_state_83
  by_cases cs1 : x2 = 1
  · have hw := hw.2.1 cs1
    refine lv_tableIn (off := 62) (tgt := 84) hx hb dX9_state_22 (by rw [cs1]; decide) (by rw [cs1]; decide) (by rw [cs1]; decide) (by decide) ?_
    refine lv_iload_n hx hb dX9_state_84 rfl (lv_at hl 0 rfl) ?_
    refine lv_if_eq (tgt := 95) hx hb dX9_state_85 (by decide) (fun c4 => ?_) (fun c4 => ?_)
    · have hw := hw.1 c4
      refine lv_aload_n hx hb dX9_state_95 rfl (lv_at hl 1 rfl) ?_
      refine mo_geti S hK hM 13 (by decide) q792 dX9_state_96 rfl ?_
      exact mo_iret S hr hlocks hM hS hw dX9_state_99
    · have hw := hw.2 c4
      refine lv_aload_n hx hb dX9_state_88 rfl (lv_at hl 1 rfl) ?_
      refine mo_geti S hK hM 22 (by decide) q801 dX9_state_89 rfl ?_
      refine lv_goto (tgt := 99) hx hb dX9_state_92 (by decide) ?_
      exact mo_iret S hr hlocks hM hS hw dX9_state_99
  by_cases cs2 : x2 = 2
  · have hw := hw.2.2.1 cs2
    refine lv_tableIn (off := 78) (tgt := 100) hx hb dX9_state_22 (by rw [cs2]; decide) (by rw [cs2]; decide) (by rw [cs2]; decide) (by decide) ?_
    refine lv_aload_n hx hb dX9_state_100 rfl (lv_at hl 1 rfl) ?_
    refine mo_geta S hK hM 4 (by decide) q783 dX9_state_101 rfl ?_
    refine lv_iload_n hx hb dX9_state_104 rfl (lv_at hl 0 rfl) ?_
    refine lv_if_eq (tgt := 115) hx hb dX9_state_105 (by decide) (fun c5 => ?_) (fun c5 => ?_)
    · have hw := hw.1 c5
      refine lv_aload_n hx hb dX9_state_115 rfl (lv_at hl 1 rfl) ?_
      refine mo_calli (As := []) S hK hM hS (m9_farNewest l g V A  _ hI hw) (cwV 0 hts (lw_V q976 q978 qs22 q64 q979) rfl rfl rfl (by decide +kernel) ⟨Nat.le_of_ble_eq_true rfl, Nat.le_of_ble_eq_true rfl⟩) rfl hl.1 rfl (lv_room (Nat.le_of_ble_eq_true rfl)) dX9_state_116 ⟨Nat.zero_le _, Nat.zero_le _⟩ (fun r8 V6 A7 H locs hw hM hS => ?_)
      have hin := hw.1
      have hw := hw.2
      refine mo_ald S hK hM 4 rfl hin dX9_state_119 ?_
      exact mo_iret S hr hlocks hM hS hw dX9_state_120
    · have hw := hw.2 c5
      refine lv_aload_n hx hb dX9_state_108 rfl (lv_at hl 1 rfl) ?_
      refine mo_calli (As := []) S hK hM hS (m9_nearNewest l g V A  _ hI hw) (cwV 0 hts (lw_V q1029 q1031 qs35 q64 q1032) rfl rfl rfl (by decide +kernel) ⟨Nat.le_of_ble_eq_true rfl, Nat.le_of_ble_eq_true rfl⟩) rfl hl.1 rfl (lv_room (Nat.le_of_ble_eq_true rfl)) dX9_state_109 ⟨Nat.zero_le _, Nat.zero_le _⟩ (fun r11 V9 A10 H locs hw hM hS => ?_)
      refine lv_goto (tgt := 119) hx hb dX9_state_112 (by decide) ?_
      have hin := hw.1
      have hw := hw.2
      refine mo_ald S hK hM 4 rfl hin dX9_state_119 ?_
      exact mo_iret S hr hlocks hM hS hw dX9_state_120
  by_cases cs3 : x2 = 3
  · have hw := hw.2.2.2.1 cs3
    refine lv_tableIn (off := 99) (tgt := 121) hx hb dX9_state_22 (by rw [cs3]; decide) (by rw [cs3]; decide) (by rw [cs3]; decide) (by decide) ?_
    refine lv_iload_n hx hb dX9_state_121 rfl (lv_at hl 0 rfl) ?_
    refine lv_if_eq (tgt := 132) hx hb dX9_state_122 (by decide) (fun c12 => ?_) (fun c12 => ?_)
    · have hw := hw.1 c12
      refine lv_aload_n hx hb dX9_state_132 rfl (lv_at hl 1 rfl) ?_
      refine mo_geti S hK hM 14 (by decide) q793 dX9_state_133 rfl ?_
      exact mo_iret S hr hlocks hM hS hw dX9_state_136
    · have hw := hw.2 c12
      refine lv_aload_n hx hb dX9_state_125 rfl (lv_at hl 1 rfl) ?_
      refine mo_geti S hK hM 23 (by decide) q802 dX9_state_126 rfl ?_
      refine lv_goto (tgt := 136) hx hb dX9_state_129 (by decide) ?_
      exact mo_iret S hr hlocks hM hS hw dX9_state_136
  by_cases cs4 : x2 = 4
  · have hw := hw.2.2.2.2.1 cs4
    refine lv_tableIn (off := 115) (tgt := 137) hx hb dX9_state_22 (by rw [cs4]; decide) (by rw [cs4]; decide) (by rw [cs4]; decide) (by decide) ?_
    refine lv_iload_n hx hb dX9_state_137 rfl (lv_at hl 0 rfl) ?_
    refine lv_if_eq (tgt := 148) hx hb dX9_state_138 (by decide) (fun c13 => ?_) (fun c13 => ?_)
    · have hw := hw.1 c13
      refine lv_aload_n hx hb dX9_state_148 rfl (lv_at hl 1 rfl) ?_
      refine mo_geti S hK hM 15 (by decide) q794 dX9_state_149 rfl ?_
      exact mo_iret S hr hlocks hM hS hw dX9_state_152
    · have hw := hw.2 c13
      refine lv_aload_n hx hb dX9_state_141 rfl (lv_at hl 1 rfl) ?_
      refine mo_geti S hK hM 24 (by decide) q803 dX9_state_142 rfl ?_
      refine lv_goto (tgt := 152) hx hb dX9_state_145 (by decide) ?_
      exact mo_iret S hr hlocks hM hS hw dX9_state_152
  by_cases cs5 : x2 = 5
  · have hw := hw.2.2.2.2.2.1 cs5
    refine lv_tableIn (off := 131) (tgt := 153) hx hb dX9_state_22 (by rw [cs5]; decide) (by rw [cs5]; decide) (by rw [cs5]; decide) (by decide) ?_
    refine lv_iload_n hx hb dX9_state_153 rfl (lv_at hl 0 rfl) ?_
    refine lv_if_eq (tgt := 172) hx hb dX9_state_154 (by decide) (fun c14 => ?_) (fun c14 => ?_)
    · have hw := hw.1 c14
      refine lv_aload_n hx hb dX9_state_172 rfl (lv_at hl 1 rfl) ?_
      refine mo_geti S hK hM 17 (by decide) q796 dX9_state_173 rfl ?_
      refine lv_if_eq (tgt := 183) hx hb dX9_state_176 (by decide) (fun c15 => ?_) (fun c15 => ?_)
      · have hw := hw.1 c15
        refine lv_iconst (v := 0) hx hb dX9_state_183 (by decide) ?_
        exact mo_iret S hr hlocks hM hS hw dX9_state_184
      · have hw := hw.2 c15
        refine lv_iconst (v := 1) hx hb dX9_state_179 (by decide) ?_
        refine lv_goto (tgt := 184) hx hb dX9_state_180 (by decide) ?_
        exact mo_iret S hr hlocks hM hS hw dX9_state_184
    · have hw := hw.2 c14
      refine lv_aload_n hx hb dX9_state_157 rfl (lv_at hl 1 rfl) ?_
      refine mo_geti S hK hM 26 (by decide) q805 dX9_state_158 rfl ?_
      refine lv_if_eq (tgt := 168) hx hb dX9_state_161 (by decide) (fun c16 => ?_) (fun c16 => ?_)
      · have hw := hw.1 c16
        refine lv_iconst (v := 0) hx hb dX9_state_168 (by decide) ?_
        refine lv_goto (tgt := 184) hx hb dX9_state_169 (by decide) ?_
        exact mo_iret S hr hlocks hM hS hw dX9_state_184
      · have hw := hw.2 c16
        refine lv_iconst (v := 1) hx hb dX9_state_164 (by decide) ?_
        refine lv_goto (tgt := 184) hx hb dX9_state_165 (by decide) ?_
        exact mo_iret S hr hlocks hM hS hw dX9_state_184
  by_cases cs6 : x2 = 6
  · have hw := hw.2.2.2.2.2.2.1 cs6
    refine lv_tableIn (off := 163) (tgt := 185) hx hb dX9_state_22 (by rw [cs6]; decide) (by rw [cs6]; decide) (by rw [cs6]; decide) (by decide) ?_
    refine lv_iload_n hx hb dX9_state_185 rfl (lv_at hl 0 rfl) ?_
    refine lv_if_eq (tgt := 196) hx hb dX9_state_186 (by decide) (fun c17 => ?_) (fun c17 => ?_)
    · have hw := hw.1 c17
      refine lv_aload_n hx hb dX9_state_196 rfl (lv_at hl 1 rfl) ?_
      refine mo_geti S hK hM 18 (by decide) q797 dX9_state_197 rfl ?_
      exact mo_iret S hr hlocks hM hS hw dX9_state_200
    · have hw := hw.2 c17
      refine lv_aload_n hx hb dX9_state_189 rfl (lv_at hl 1 rfl) ?_
      refine mo_geti S hK hM 27 (by decide) q806 dX9_state_190 rfl ?_
      refine lv_goto (tgt := 200) hx hb dX9_state_193 (by decide) ?_
      exact mo_iret S hr hlocks hM hS hw dX9_state_200
  by_cases cs7 : x2 = 7
  · have hw := hw.2.2.2.2.2.2.2.1 cs7
    refine lv_tableIn (off := 179) (tgt := 201) hx hb dX9_state_22 (by rw [cs7]; decide) (by rw [cs7]; decide) (by rw [cs7]; decide) (by decide) ?_
    refine lv_iload_n hx hb dX9_state_201 rfl (lv_at hl 0 rfl) ?_
    refine lv_if_eq (tgt := 212) hx hb dX9_state_202 (by decide) (fun c18 => ?_) (fun c18 => ?_)
    · have hw := hw.1 c18
      refine lv_aload_n hx hb dX9_state_212 rfl (lv_at hl 1 rfl) ?_
      refine mo_geti S hK hM 8 (by decide) q787 dX9_state_213 rfl ?_
      exact mo_iret S hr hlocks hM hS hw dX9_state_216
    · have hw := hw.2 c18
      refine lv_aload_n hx hb dX9_state_205 rfl (lv_at hl 1 rfl) ?_
      refine mo_geti S hK hM 28 (by decide) q807 dX9_state_206 rfl ?_
      refine lv_goto (tgt := 216) hx hb dX9_state_209 (by decide) ?_
      exact mo_iret S hr hlocks hM hS hw dX9_state_216
  have hw := hw.2.2.2.2.2.2.2.2 cs0 cs1 cs2 cs3 cs4 cs5 cs6 cs7
  have ne0 := lv_neT (a := 0) cs0 rfl
  have ne1 := lv_neT (a := 1) cs1 rfl
  have ne2 := lv_neT (a := 2) cs2 rfl
  have ne3 := lv_neT (a := 3) cs3 rfl
  have ne4 := lv_neT (a := 4) cs4 rfl
  have ne5 := lv_neT (a := 5) cs5 rfl
  have ne6 := lv_neT (a := 6) cs6 rfl
  have ne7 := lv_neT (a := 7) cs7 rfl
  refine lv_tableOut (tgt := 217) hx hb dX9_state_22 (by omega) (by decide) ?_
  refine lv_iconst (v := (-1)) hx hb dX9_state_217 (by decide) ?_
  exact mo_iret S hr hlocks hM hS hw dX9_state_218
def w9_state_11 (post : Int32 → VV → AA → Prop)  (V : VV) (A : AA) (x1 x2 : Int32) : Prop :=
  (x1 = 0 → w9_state_20 post V A x2 1) ∧ (¬ x1 = 0 → w9_state_20 post V A x2 0)
set_option maxHeartbeats 4000000 in
set_option maxRecDepth 100000 in
theorem r9_state_11 {p : Program} {l : Launch} {e : Env} {s : State} {m : MethodId} {args : Array Value} {below : List Frame} {meth : Method} {c : Code} {g : MG} (S : CallFix p m c cX9_state 4 s args lw_all RX9) (hr : meth.sig.returnType = (some .int)) (hlocks : meth.locks = false) (hK : KM g s) (hI : HI g) {post : Int32 → VV → AA → Prop}  : ∀ (V : VV) (A : AA) (x1 x2 : Int32), w9_state_11 post  V A x1 x2 → ∀ (H : Heap) (locs : List Loc), HM g V A H → va_S (HA g) s.heap H locs → ∀ (ls : Array Slot), lv_has ls 4 [(0, .ref (mh g)), (1, .int x1), (2, .int x2)] → W p l e rm9_state s m args below meth c H locs 0 0 (MQ below (MQi g post) args s 0 0 (HA g)) (F0 m 11 ls []) := by
  have hx := S.1
  have hb := S.2.1
  have hown := S.2.2.2.1
  have hts := S.2.2.2.2
  intro V A x1 x2 hw H locs hM hS ls hl
  unfold w9_state_11 at hw
  refine lv_iload_n hx hb dX9_state_11 rfl (lv_at hl 1 rfl) ?_
  refine lv_if_ne (tgt := 19) hx hb dX9_state_12 (by decide) (fun c2 => ?_) (fun c2 => ?_)
  · have hw := hw.2 c2
    refine lv_iconst (v := 0) hx hb dX9_state_19 (by decide) ?_
    exact r9_state_20 S hr hlocks hK hI  _ _ _ _ hw _ _ hM hS _ (lv_sub hl [0, 2] rfl)
  · have hw := hw.1 c2
    refine lv_iconst (v := 1) hx hb dX9_state_15 (by decide) ?_
    refine lv_goto (tgt := 20) hx hb dX9_state_16 (by decide) ?_
    exact r9_state_20 S hr hlocks hK hI  _ _ _ _ hw _ _ hM hS _ (lv_sub hl [0, 2] rfl)
def w9_state (post : Int32 → VV → AA → Prop) (V : VV) (A : AA) (x1 x2 : Int32) : Prop :=
  (x1 = 0 → w9_state_11 post V A x1 x2) ∧ (¬ x1 = 0 → (x1 = 1 → w9_state_11 post V A x1 x2) ∧ (¬ x1 = 1 → post (-1) V A))
set_option maxHeartbeats 4000000 in
set_option maxRecDepth 100000 in
theorem m9_state (l : Launch) (g : MG) (V : VV) (A : AA) (x1 x2 : Int32) (post : Int32 → VV → AA → Prop) (hI : HI g) (hw : w9_state post V A x1 x2) : Met l yX9_state (ws_ yX9_state cX9_state 4 (some .int)) rm9_state (MPc g V A [.ref (mh g), .int x1, .int x2]) (MQi g post) 0 0 (HA g) := by
  refine Met.ofW (cc := cX9_state) (maxL := 4) (ret := (some .int)) (by decide) rfl ?_
  intro p e s m args below meth c s₁ B hml hv
  obtain ⟨rfl, hK, hM⟩ := hv
  have hx := B.exec
  have hb := B.bytes
  have hr : meth.sig.returnType = (some .int) := B.returns
  have hts := atoms_spec (ws := ws_ yX9_state cX9_state 4 (some .int)) B.pre
  have hts : ∀ w ∈ lw_all, w.before _ s = true := fun w h => hts w (List.mem_cons_of_mem _ h)
  have hown : s.vm.findClass RX9 = some m.cls := findClass_of_methodNamed B.named
  have hlocks : meth.locks = false := B.notSynchronized
  have S : CallFix p m c cX9_state 4 s _ lw_all RX9 := ⟨hx, hb, hml, hown, hts⟩
  have hS : va_S (HA g) s.heap s.heap [] := va_S.rf
  have hl := lv_entry ([.ref (mh g), .int x1, .int x2]) (n := 4) (Nat.le_of_ble_eq_true rfl)
  rw [lg_entry_eq]
  generalize (lg_sl ([.ref (mh g), .int x1, .int x2]) ++ List.replicate (4 - (lg_sl ([.ref (mh g), .int x1, .int x2])).length) Slot.unset).toArray = ls at hl ⊢
  have hl : lv_has ls 4 [(0, .ref (mh g)), (1, .int x1), (2, .int x2)] := hl
  unfold w9_state at hw
  refine lv_iload_n hx hb dX9_state_0 rfl (lv_at hl 1 rfl) ?_
  refine lv_if_eq (tgt := 11) hx hb dX9_state_1 (by decide) (fun c1 => ?_) (fun c1 => ?_)
  · have hw := hw.1 c1
    exact r9_state_11 S hr hlocks hK hI  _ _ _ _ hw _ _ hM hS _ (lv_sub hl [0, 1, 2] rfl)
  · have hw := hw.2 c1
    refine lv_iload_n hx hb dX9_state_4 rfl (lv_at hl 1 rfl) ?_
    refine lv_iconst (v := 1) hx hb dX9_state_5 (by decide) ?_
    refine lv_icmp_eq (tgt := 11) hx hb dX9_state_6 (by decide) (fun c19 => ?_) (fun c19 => ?_)
    · have hw := hw.1 c19
      exact r9_state_11 S hr hlocks hK hI  _ _ _ _ hw _ _ hM hS _ (lv_sub hl [0, 1, 2] rfl)
    · have hw := hw.2 c19
      refine lv_iconst (v := (-1)) hx hb dX9_state_9 (by decide) ?_
      exact mo_iret S hr hlocks hM hS hw dX9_state_10
/-! FarTypewriterModel.kept(II)I -/
abbrev rm9_kept : Room := { frames := 0, cells := 0, slots := 0, locals := 0 }
def w9_kept_29 (post : Int32 → VV → AA → Prop)  (V : VV) (A : AA) (x1 x2 t0 t1 : Int32) : Prop :=
  (t1 < t0 → (x1 = 0 → vp_in (34 + x2) 69 ∧ post (A 4 (34 + x2).toNatClampNeg) V A) ∧ (¬ x1 = 0 → vp_in (1 + x2) 69 ∧ post (A 4 (1 + x2).toNatClampNeg) V A)) ∧ (¬ t1 < t0 → post (-1) V A)
set_option maxHeartbeats 4000000 in
set_option maxRecDepth 100000 in
theorem r9_kept_29 {p : Program} {l : Launch} {e : Env} {s : State} {m : MethodId} {args : Array Value} {below : List Frame} {meth : Method} {c : Code} {g : MG} (S : CallFix p m c cX9_kept 3 s args lw_all RX9) (hr : meth.sig.returnType = (some .int)) (hlocks : meth.locks = false) (hK : KM g s) (hI : HI g) {post : Int32 → VV → AA → Prop}  : ∀ (V : VV) (A : AA) (x1 x2 t0 t1 : Int32), w9_kept_29 post  V A x1 x2 t0 t1 → ∀ (H : Heap) (locs : List Loc), HM g V A H → va_S (HA g) s.heap H locs → ∀ (ls : Array Slot), lv_has ls 3 [(0, .ref (mh g)), (1, .int x1), (2, .int x2)] → W p l e rm9_kept s m args below meth c H locs 0 0 (MQ below (MQi g post) args s 0 0 (HA g)) (F0 m 29 ls [.int t0, .int t1]) := by
  have hx := S.1
  have hb := S.2.1
  have hown := S.2.2.2.1
  have hts := S.2.2.2.2
  intro V A x1 x2 t0 t1 hw H locs hM hS ls hl
  unfold w9_kept_29 at hw
  refine lv_icmp_lt (tgt := 34) hx hb dX9_kept_29 (by decide) (fun c4 => ?_) (fun c4 => ?_)
  · have hw := hw.1 c4
    refine lv_aload_n hx hb dX9_kept_34 rfl (lv_at hl 0 rfl) ?_
    refine mo_geta S hK hM 4 (by decide) q783 dX9_kept_35 rfl ?_
    refine lv_iload_n hx hb dX9_kept_38 rfl (lv_at hl 1 rfl) ?_
    refine lv_if_ne (tgt := 47) hx hb dX9_kept_39 (by decide) (fun c5 => ?_) (fun c5 => ?_)
    · have hw := hw.2 c5
      refine lv_iconst (v := 1) hx hb dX9_kept_47 (by decide) ?_
      refine lv_iload_n hx hb dX9_kept_48 rfl (lv_at hl 2 rfl) ?_
      refine lv_iadd hx hb dX9_kept_49 ?_
      have hin := hw.1
      have hw := hw.2
      refine mo_ald S hK hM 4 rfl hin dX9_kept_50 ?_
      exact mo_iret S hr hlocks hM hS hw dX9_kept_51
    · have hw := hw.1 c5
      refine lv_bipush (v := 34) hx hb dX9_kept_42 (by decide) ?_
      refine lv_goto (tgt := 48) hx hb dX9_kept_44 (by decide) ?_
      refine lv_iload_n hx hb dX9_kept_48 rfl (lv_at hl 2 rfl) ?_
      refine lv_iadd hx hb dX9_kept_49 ?_
      have hin := hw.1
      have hw := hw.2
      refine mo_ald S hK hM 4 rfl hin dX9_kept_50 ?_
      exact mo_iret S hr hlocks hM hS hw dX9_kept_51
  · have hw := hw.2 c4
    refine lv_iconst (v := (-1)) hx hb dX9_kept_32 (by decide) ?_
    exact mo_iret S hr hlocks hM hS hw dX9_kept_33
def w9_kept_9 (post : Int32 → VV → AA → Prop)  (V : VV) (A : AA) (x1 x2 : Int32) : Prop :=
  (x2 < 0 → post (-1) V A) ∧ (¬ x2 < 0 → (x1 = 0 → w9_kept_29 post V A x1 x2 (V 23) x2) ∧ (¬ x1 = 0 → w9_kept_29 post V A x1 x2 (V 14) x2))
set_option maxHeartbeats 4000000 in
set_option maxRecDepth 100000 in
theorem r9_kept_9 {p : Program} {l : Launch} {e : Env} {s : State} {m : MethodId} {args : Array Value} {below : List Frame} {meth : Method} {c : Code} {g : MG} (S : CallFix p m c cX9_kept 3 s args lw_all RX9) (hr : meth.sig.returnType = (some .int)) (hlocks : meth.locks = false) (hK : KM g s) (hI : HI g) {post : Int32 → VV → AA → Prop}  : ∀ (V : VV) (A : AA) (x1 x2 : Int32), w9_kept_9 post  V A x1 x2 → ∀ (H : Heap) (locs : List Loc), HM g V A H → va_S (HA g) s.heap H locs → ∀ (ls : Array Slot), lv_has ls 3 [(0, .ref (mh g)), (1, .int x1), (2, .int x2)] → W p l e rm9_kept s m args below meth c H locs 0 0 (MQ below (MQi g post) args s 0 0 (HA g)) (F0 m 9 ls []) := by
  have hx := S.1
  have hb := S.2.1
  have hown := S.2.2.2.1
  have hts := S.2.2.2.2
  intro V A x1 x2 hw H locs hM hS ls hl
  unfold w9_kept_9 at hw
  refine lv_iload_n hx hb dX9_kept_9 rfl (lv_at hl 2 rfl) ?_
  refine lv_if_lt (tgt := 32) hx hb dX9_kept_10 (by decide) (fun c2 => ?_) (fun c2 => ?_)
  · have hw := hw.1 c2
    refine lv_iconst (v := (-1)) hx hb dX9_kept_32 (by decide) ?_
    exact mo_iret S hr hlocks hM hS hw dX9_kept_33
  · have hw := hw.2 c2
    refine lv_iload_n hx hb dX9_kept_13 rfl (lv_at hl 2 rfl) ?_
    refine lv_iload_n hx hb dX9_kept_14 rfl (lv_at hl 1 rfl) ?_
    refine lv_if_ne (tgt := 25) hx hb dX9_kept_15 (by decide) (fun c3 => ?_) (fun c3 => ?_)
    · have hw := hw.2 c3
      refine lv_aload_n hx hb dX9_kept_25 rfl (lv_at hl 0 rfl) ?_
      refine mo_geti S hK hM 14 (by decide) q793 dX9_kept_26 rfl ?_
      exact r9_kept_29 S hr hlocks hK hI  _ _ _ _ _ _ hw _ _ hM hS _ (lv_sub hl [0, 1, 2] rfl)
    · have hw := hw.1 c3
      refine lv_aload_n hx hb dX9_kept_18 rfl (lv_at hl 0 rfl) ?_
      refine mo_geti S hK hM 23 (by decide) q802 dX9_kept_19 rfl ?_
      refine lv_goto (tgt := 29) hx hb dX9_kept_22 (by decide) ?_
      exact r9_kept_29 S hr hlocks hK hI  _ _ _ _ _ _ hw _ _ hM hS _ (lv_sub hl [0, 1, 2] rfl)
def w9_kept (post : Int32 → VV → AA → Prop) (V : VV) (A : AA) (x1 x2 : Int32) : Prop :=
  (x1 = 0 → w9_kept_9 post V A x1 x2) ∧ (¬ x1 = 0 → (x1 = 1 → w9_kept_9 post V A x1 x2) ∧ (¬ x1 = 1 → post (-1) V A))
set_option maxHeartbeats 4000000 in
set_option maxRecDepth 100000 in
theorem m9_kept (l : Launch) (g : MG) (V : VV) (A : AA) (x1 x2 : Int32) (post : Int32 → VV → AA → Prop) (hI : HI g) (hw : w9_kept post V A x1 x2) : Met l yX9_kept (ws_ yX9_kept cX9_kept 3 (some .int)) rm9_kept (MPc g V A [.ref (mh g), .int x1, .int x2]) (MQi g post) 0 0 (HA g) := by
  refine Met.ofW (cc := cX9_kept) (maxL := 3) (ret := (some .int)) (by decide) rfl ?_
  intro p e s m args below meth c s₁ B hml hv
  obtain ⟨rfl, hK, hM⟩ := hv
  have hx := B.exec
  have hb := B.bytes
  have hr : meth.sig.returnType = (some .int) := B.returns
  have hts := atoms_spec (ws := ws_ yX9_kept cX9_kept 3 (some .int)) B.pre
  have hts : ∀ w ∈ lw_all, w.before _ s = true := fun w h => hts w (List.mem_cons_of_mem _ h)
  have hown : s.vm.findClass RX9 = some m.cls := findClass_of_methodNamed B.named
  have hlocks : meth.locks = false := B.notSynchronized
  have S : CallFix p m c cX9_kept 3 s _ lw_all RX9 := ⟨hx, hb, hml, hown, hts⟩
  have hS : va_S (HA g) s.heap s.heap [] := va_S.rf
  have hl := lv_entry ([.ref (mh g), .int x1, .int x2]) (n := 3) (Nat.le_of_ble_eq_true rfl)
  rw [lg_entry_eq]
  generalize (lg_sl ([.ref (mh g), .int x1, .int x2]) ++ List.replicate (3 - (lg_sl ([.ref (mh g), .int x1, .int x2])).length) Slot.unset).toArray = ls at hl ⊢
  have hl : lv_has ls 3 [(0, .ref (mh g)), (1, .int x1), (2, .int x2)] := hl
  unfold w9_kept at hw
  refine lv_iload_n hx hb dX9_kept_0 rfl (lv_at hl 1 rfl) ?_
  refine lv_if_eq (tgt := 9) hx hb dX9_kept_1 (by decide) (fun c1 => ?_) (fun c1 => ?_)
  · have hw := hw.1 c1
    exact r9_kept_9 S hr hlocks hK hI  _ _ _ _ hw _ _ hM hS _ (lv_sub hl [0, 1, 2] rfl)
  · have hw := hw.2 c1
    refine lv_iload_n hx hb dX9_kept_4 rfl (lv_at hl 1 rfl) ?_
    refine lv_iconst (v := 1) hx hb dX9_kept_5 (by decide) ?_
    refine lv_icmp_ne (tgt := 32) hx hb dX9_kept_6 (by decide) (fun c6 => ?_) (fun c6 => ?_)
    · have hw := hw.2 c6
      refine lv_iconst (v := (-1)) hx hb dX9_kept_32 (by decide) ?_
      exact mo_iret S hr hlocks hM hS hw dX9_kept_33
    · have hw := hw.1 c6
      exact r9_kept_9 S hr hlocks hK hI  _ _ _ _ hw _ _ hM hS _ (lv_sub hl [0, 1, 2] rfl)
/-! FarTypewriterModel.guess(II)I -/
abbrev rm9_guess_2 : Room := { frames := 0, cells := 0, slots := 0, locals := 0 }
def w9_guess_2 (post : Int32 → VV → AA → Prop) (V : VV) (A : AA) (x1 x2 : Int32) : Prop :=
  (x1 < 0 → post (-2) V A) ∧ (¬ x1 < 0 → (x1 < (V 37) → (x2 = 0 → vp_in x1 60 ∧ post (A 40 x1.toNatClampNeg) V A) ∧ (x2 = 1 → vp_in x1 60 ∧ post (A 41 x1.toNatClampNeg) V A) ∧ (x2 = 2 → vp_in x1 60 ∧ (((A 42 x1.toNatClampNeg) = (-1) → post (-1) V A) ∧ (¬ (A 42 x1.toNatClampNeg) = (-1) → vp_in x1 60 ∧ post ((A 42 x1.toNatClampNeg) / 24) V A))) ∧ (x2 = 3 → vp_in x1 60 ∧ (((A 42 x1.toNatClampNeg) = (-1) → post (-1) V A) ∧ (¬ (A 42 x1.toNatClampNeg) = (-1) → vp_in x1 60 ∧ post ((A 42 x1.toNatClampNeg) - (A 42 x1.toNatClampNeg) / 24 * 24) V A))) ∧ (x2 = 4 → vp_in x1 60 ∧ post (A 43 x1.toNatClampNeg) V A) ∧ (x2 = 5 → vp_in x1 60 ∧ (((V 38) < (A 41 x1.toNatClampNeg) → post 0 V A) ∧ (¬ (V 38) < (A 41 x1.toNatClampNeg) → post 1 V A))) ∧ (x2 = 6 → vp_in x1 60 ∧ post (A 44 x1.toNatClampNeg) V A) ∧ (x2 = 7 → vp_in x1 60 ∧ post (A 45 x1.toNatClampNeg) V A) ∧ (¬ x2 = 0 → ¬ x2 = 1 → ¬ x2 = 2 → ¬ x2 = 3 → ¬ x2 = 4 → ¬ x2 = 5 → ¬ x2 = 6 → ¬ x2 = 7 → post (-2) V A)) ∧ (¬ x1 < (V 37) → post (-2) V A))
set_option maxHeartbeats 4000000 in
set_option maxRecDepth 100000 in
theorem m9_guess_2 (l : Launch) (g : MG) (V : VV) (A : AA) (x1 x2 : Int32) (post : Int32 → VV → AA → Prop) (hI : HI g) (hw : w9_guess_2 post V A x1 x2) : Met l yX9_guess_2 (ws_ yX9_guess_2 cX9_guess_2 3 (some .int)) rm9_guess_2 (MPc g V A [.ref (mh g), .int x1, .int x2]) (MQi g post) 0 0 (HA g) := by
  refine Met.ofW (cc := cX9_guess_2) (maxL := 3) (ret := (some .int)) (by decide) rfl ?_
  intro p e s m args below meth c s₁ B hml hv
  obtain ⟨rfl, hK, hM⟩ := hv
  have hx := B.exec
  have hb := B.bytes
  have hr : meth.sig.returnType = (some .int) := B.returns
  have hts := atoms_spec (ws := ws_ yX9_guess_2 cX9_guess_2 3 (some .int)) B.pre
  have hts : ∀ w ∈ lw_all, w.before _ s = true := fun w h => hts w (List.mem_cons_of_mem _ h)
  have hown : s.vm.findClass RX9 = some m.cls := findClass_of_methodNamed B.named
  have hlocks : meth.locks = false := B.notSynchronized
  have S : CallFix p m c cX9_guess_2 3 s _ lw_all RX9 := ⟨hx, hb, hml, hown, hts⟩
  have hS : va_S (HA g) s.heap s.heap [] := va_S.rf
  have hl := lv_entry ([.ref (mh g), .int x1, .int x2]) (n := 3) (Nat.le_of_ble_eq_true rfl)
  rw [lg_entry_eq]
  generalize (lg_sl ([.ref (mh g), .int x1, .int x2]) ++ List.replicate (3 - (lg_sl ([.ref (mh g), .int x1, .int x2])).length) Slot.unset).toArray = ls at hl ⊢
  have hl : lv_has ls 3 [(0, .ref (mh g)), (1, .int x1), (2, .int x2)] := hl
  unfold w9_guess_2 at hw
  refine lv_iload_n hx hb dX9_guess_2_0 rfl (lv_at hl 1 rfl) ?_
  refine lv_if_lt (tgt := 12) hx hb dX9_guess_2_1 (by decide) (fun c1 => ?_) (fun c1 => ?_)
  · have hw := hw.1 c1
    refine lv_bipush (v := (-2)) hx hb dX9_guess_2_12 (by decide) ?_
    exact mo_iret S hr hlocks hM hS hw dX9_guess_2_14
  · have hw := hw.2 c1
    refine lv_iload_n hx hb dX9_guess_2_4 rfl (lv_at hl 1 rfl) ?_
    refine lv_aload_n hx hb dX9_guess_2_5 rfl (lv_at hl 0 rfl) ?_
    refine mo_geti S hK hM 37 (by decide) q816 dX9_guess_2_6 rfl ?_
    refine lv_icmp_lt (tgt := 15) hx hb dX9_guess_2_9 (by decide) (fun c2 => ?_) (fun c2 => ?_)
    · have hw := hw.1 c2
      refine lv_iload_n hx hb dX9_guess_2_15 rfl (lv_at hl 2 rfl) ?_
      by_cases cs0 : x2 = 0
      · have hw := hw.1 cs0
        refine lv_tableIn (off := 48) (tgt := 64) hx hb dX9_guess_2_16 (by rw [cs0]; decide) (by rw [cs0]; decide) (by rw [cs0]; decide) (by decide) ?_
        refine lv_aload_n hx hb dX9_guess_2_64 rfl (lv_at hl 0 rfl) ?_
        refine mo_geta S hK hM 40 (by decide) q819 dX9_guess_2_65 rfl ?_
        refine lv_iload_n hx hb dX9_guess_2_68 rfl (lv_at hl 1 rfl) ?_
        have hin := hw.1
        have hw := hw.2
        refine mo_ald S hK hM 40 rfl hin dX9_guess_2_69 ?_
        exact mo_iret S hr hlocks hM hS hw dX9_guess_2_70
      by_cases cs1 : x2 = 1
      · have hw := hw.2.1 cs1
        refine lv_tableIn (off := 55) (tgt := 71) hx hb dX9_guess_2_16 (by rw [cs1]; decide) (by rw [cs1]; decide) (by rw [cs1]; decide) (by decide) ?_
        refine lv_aload_n hx hb dX9_guess_2_71 rfl (lv_at hl 0 rfl) ?_
        refine mo_geta S hK hM 41 (by decide) q820 dX9_guess_2_72 rfl ?_
        refine lv_iload_n hx hb dX9_guess_2_75 rfl (lv_at hl 1 rfl) ?_
        have hin := hw.1
        have hw := hw.2
        refine mo_ald S hK hM 41 rfl hin dX9_guess_2_76 ?_
        exact mo_iret S hr hlocks hM hS hw dX9_guess_2_77
      by_cases cs2 : x2 = 2
      · have hw := hw.2.2.1 cs2
        refine lv_tableIn (off := 62) (tgt := 78) hx hb dX9_guess_2_16 (by rw [cs2]; decide) (by rw [cs2]; decide) (by rw [cs2]; decide) (by decide) ?_
        refine lv_aload_n hx hb dX9_guess_2_78 rfl (lv_at hl 0 rfl) ?_
        refine mo_geta S hK hM 42 (by decide) q821 dX9_guess_2_79 rfl ?_
        refine lv_iload_n hx hb dX9_guess_2_82 rfl (lv_at hl 1 rfl) ?_
        have hin := hw.1
        have hw := hw.2
        refine mo_ald S hK hM 42 rfl hin dX9_guess_2_83 ?_
        refine lv_iconst (v := (-1)) hx hb dX9_guess_2_84 (by decide) ?_
        refine lv_icmp_ne (tgt := 92) hx hb dX9_guess_2_85 (by decide) (fun c3 => ?_) (fun c3 => ?_)
        · have hw := hw.2 c3
          refine lv_aload_n hx hb dX9_guess_2_92 rfl (lv_at hl 0 rfl) ?_
          refine mo_geta S hK hM 42 (by decide) q821 dX9_guess_2_93 rfl ?_
          refine lv_iload_n hx hb dX9_guess_2_96 rfl (lv_at hl 1 rfl) ?_
          have hin := hw.1
          have hw := hw.2
          refine mo_ald S hK hM 42 rfl hin dX9_guess_2_97 ?_
          refine lv_bipush (v := 24) hx hb dX9_guess_2_98 (by decide) ?_
          refine lv_idiv hx hb dX9_guess_2_100 (by decide) ?_
          exact mo_iret S hr hlocks hM hS hw dX9_guess_2_101
        · have hw := hw.1 c3
          refine lv_iconst (v := (-1)) hx hb dX9_guess_2_88 (by decide) ?_
          refine lv_goto (tgt := 101) hx hb dX9_guess_2_89 (by decide) ?_
          exact mo_iret S hr hlocks hM hS hw dX9_guess_2_101
      by_cases cs3 : x2 = 3
      · have hw := hw.2.2.2.1 cs3
        refine lv_tableIn (off := 86) (tgt := 102) hx hb dX9_guess_2_16 (by rw [cs3]; decide) (by rw [cs3]; decide) (by rw [cs3]; decide) (by decide) ?_
        refine lv_aload_n hx hb dX9_guess_2_102 rfl (lv_at hl 0 rfl) ?_
        refine mo_geta S hK hM 42 (by decide) q821 dX9_guess_2_103 rfl ?_
        refine lv_iload_n hx hb dX9_guess_2_106 rfl (lv_at hl 1 rfl) ?_
        have hin := hw.1
        have hw := hw.2
        refine mo_ald S hK hM 42 rfl hin dX9_guess_2_107 ?_
        refine lv_iconst (v := (-1)) hx hb dX9_guess_2_108 (by decide) ?_
        refine lv_icmp_ne (tgt := 116) hx hb dX9_guess_2_109 (by decide) (fun c4 => ?_) (fun c4 => ?_)
        · have hw := hw.2 c4
          refine lv_aload_n hx hb dX9_guess_2_116 rfl (lv_at hl 0 rfl) ?_
          refine mo_geta S hK hM 42 (by decide) q821 dX9_guess_2_117 rfl ?_
          refine lv_iload_n hx hb dX9_guess_2_120 rfl (lv_at hl 1 rfl) ?_
          have hin := hw.1
          have hw := hw.2
          refine mo_ald S hK hM 42 rfl hin dX9_guess_2_121 ?_
          refine lv_bipush (v := 24) hx hb dX9_guess_2_122 (by decide) ?_
          refine lv_irem hx hb dX9_guess_2_124 (by decide) ?_
          exact mo_iret S hr hlocks hM hS hw dX9_guess_2_125
        · have hw := hw.1 c4
          refine lv_iconst (v := (-1)) hx hb dX9_guess_2_112 (by decide) ?_
          refine lv_goto (tgt := 125) hx hb dX9_guess_2_113 (by decide) ?_
          exact mo_iret S hr hlocks hM hS hw dX9_guess_2_125
      by_cases cs4 : x2 = 4
      · have hw := hw.2.2.2.2.1 cs4
        refine lv_tableIn (off := 110) (tgt := 126) hx hb dX9_guess_2_16 (by rw [cs4]; decide) (by rw [cs4]; decide) (by rw [cs4]; decide) (by decide) ?_
        refine lv_aload_n hx hb dX9_guess_2_126 rfl (lv_at hl 0 rfl) ?_
        refine mo_geta S hK hM 43 (by decide) q822 dX9_guess_2_127 rfl ?_
        refine lv_iload_n hx hb dX9_guess_2_130 rfl (lv_at hl 1 rfl) ?_
        have hin := hw.1
        have hw := hw.2
        refine mo_ald S hK hM 43 rfl hin dX9_guess_2_131 ?_
        exact mo_iret S hr hlocks hM hS hw dX9_guess_2_132
      by_cases cs5 : x2 = 5
      · have hw := hw.2.2.2.2.2.1 cs5
        refine lv_tableIn (off := 117) (tgt := 133) hx hb dX9_guess_2_16 (by rw [cs5]; decide) (by rw [cs5]; decide) (by rw [cs5]; decide) (by decide) ?_
        refine lv_aload_n hx hb dX9_guess_2_133 rfl (lv_at hl 0 rfl) ?_
        refine mo_geta S hK hM 41 (by decide) q820 dX9_guess_2_134 rfl ?_
        refine lv_iload_n hx hb dX9_guess_2_137 rfl (lv_at hl 1 rfl) ?_
        have hin := hw.1
        have hw := hw.2
        refine mo_ald S hK hM 41 rfl hin dX9_guess_2_138 ?_
        refine lv_aload_n hx hb dX9_guess_2_139 rfl (lv_at hl 0 rfl) ?_
        refine mo_geti S hK hM 38 (by decide) q817 dX9_guess_2_140 rfl ?_
        refine lv_icmp_gt (tgt := 150) hx hb dX9_guess_2_143 (by decide) (fun c5 => ?_) (fun c5 => ?_)
        · have hw := hw.1 c5
          refine lv_iconst (v := 0) hx hb dX9_guess_2_150 (by decide) ?_
          exact mo_iret S hr hlocks hM hS hw dX9_guess_2_151
        · have hw := hw.2 c5
          refine lv_iconst (v := 1) hx hb dX9_guess_2_146 (by decide) ?_
          refine lv_goto (tgt := 151) hx hb dX9_guess_2_147 (by decide) ?_
          exact mo_iret S hr hlocks hM hS hw dX9_guess_2_151
      by_cases cs6 : x2 = 6
      · have hw := hw.2.2.2.2.2.2.1 cs6
        refine lv_tableIn (off := 136) (tgt := 152) hx hb dX9_guess_2_16 (by rw [cs6]; decide) (by rw [cs6]; decide) (by rw [cs6]; decide) (by decide) ?_
        refine lv_aload_n hx hb dX9_guess_2_152 rfl (lv_at hl 0 rfl) ?_
        refine mo_geta S hK hM 44 (by decide) q823 dX9_guess_2_153 rfl ?_
        refine lv_iload_n hx hb dX9_guess_2_156 rfl (lv_at hl 1 rfl) ?_
        have hin := hw.1
        have hw := hw.2
        refine mo_ald S hK hM 44 rfl hin dX9_guess_2_157 ?_
        exact mo_iret S hr hlocks hM hS hw dX9_guess_2_158
      by_cases cs7 : x2 = 7
      · have hw := hw.2.2.2.2.2.2.2.1 cs7
        refine lv_tableIn (off := 143) (tgt := 159) hx hb dX9_guess_2_16 (by rw [cs7]; decide) (by rw [cs7]; decide) (by rw [cs7]; decide) (by decide) ?_
        refine lv_aload_n hx hb dX9_guess_2_159 rfl (lv_at hl 0 rfl) ?_
        refine mo_geta S hK hM 45 (by decide) q824 dX9_guess_2_160 rfl ?_
        refine lv_iload_n hx hb dX9_guess_2_163 rfl (lv_at hl 1 rfl) ?_
        have hin := hw.1
        have hw := hw.2
        refine mo_ald S hK hM 45 rfl hin dX9_guess_2_164 ?_
        exact mo_iret S hr hlocks hM hS hw dX9_guess_2_165
      have hw := hw.2.2.2.2.2.2.2.2 cs0 cs1 cs2 cs3 cs4 cs5 cs6 cs7
      have ne0 := lv_neT (a := 0) cs0 rfl
      have ne1 := lv_neT (a := 1) cs1 rfl
      have ne2 := lv_neT (a := 2) cs2 rfl
      have ne3 := lv_neT (a := 3) cs3 rfl
      have ne4 := lv_neT (a := 4) cs4 rfl
      have ne5 := lv_neT (a := 5) cs5 rfl
      have ne6 := lv_neT (a := 6) cs6 rfl
      have ne7 := lv_neT (a := 7) cs7 rfl
      refine lv_tableOut (tgt := 166) hx hb dX9_guess_2_16 (by omega) (by decide) ?_
      refine lv_bipush (v := (-2)) hx hb dX9_guess_2_166 (by decide) ?_
      exact mo_iret S hr hlocks hM hS hw dX9_guess_2_168
    · have hw := hw.2 c2
      refine lv_bipush (v := (-2)) hx hb dX9_guess_2_12 (by decide) ?_
      exact mo_iret S hr hlocks hM hS hw dX9_guess_2_14
/-! FarTypewriterModel.letter(III)I -/
abbrev rm9_letter : Room := { frames := 1, cells := 0, slots := 0, locals := 22 }
def w9_letter (post : Int32 → VV → AA → Prop) (V : VV) (A : AA) (x1 x2 x3 : Int32) : Prop :=
  w9_isLetterOf (fun (r3 : Int32) (V1 : VV) (A2 : AA) => (r3 = 0 → post (-1) V1 A2) ∧ (¬ r3 = 0 → vp_in ((40 * x1) + x2) 80 ∧ (∀ y4_5 : Int32, y4_5 = A2 32 ((40 * x1) + x2).toNatClampNeg → ((x3 = 0 → post y4_5 V1 A2) ∧ (¬ x3 = 0 → (x3 < 1 → post (-1) V1 A2) ∧ (¬ x3 < 1 → (y4_5 < x3 → post (-1) V1 A2) ∧ (¬ y4_5 < x3 → vp_in (((1100 * ((40 * x1) + x2)) + x3) - 1) 88000 ∧ post (A2 31 (((1100 * ((40 * x1) + x2)) + x3) - 1).toNatClampNeg) V1 A2))))))) V A x1 x2
set_option maxHeartbeats 4000000 in
set_option maxRecDepth 100000 in
theorem m9_letter (l : Launch) (g : MG) (V : VV) (A : AA) (x1 x2 x3 : Int32) (post : Int32 → VV → AA → Prop) (hI : HI g) (hw : w9_letter post V A x1 x2 x3) : Met l yX9_letter (ws_ yX9_letter cX9_letter 5 (some .int)) rm9_letter (MPc g V A [.ref (mh g), .int x1, .int x2, .int x3]) (MQi g post) 0 0 (HA g) := by
  refine Met.ofW (cc := cX9_letter) (maxL := 5) (ret := (some .int)) (by decide) rfl ?_
  intro p e s m args below meth c s₁ B hml hv
  obtain ⟨rfl, hK, hM⟩ := hv
  have hx := B.exec
  have hb := B.bytes
  have hr : meth.sig.returnType = (some .int) := B.returns
  have hts := atoms_spec (ws := ws_ yX9_letter cX9_letter 5 (some .int)) B.pre
  have hts : ∀ w ∈ lw_all, w.before _ s = true := fun w h => hts w (List.mem_cons_of_mem _ h)
  have hown : s.vm.findClass RX9 = some m.cls := findClass_of_methodNamed B.named
  have hlocks : meth.locks = false := B.notSynchronized
  have S : CallFix p m c cX9_letter 5 s _ lw_all RX9 := ⟨hx, hb, hml, hown, hts⟩
  have hS : va_S (HA g) s.heap s.heap [] := va_S.rf
  have hl := lv_entry ([.ref (mh g), .int x1, .int x2, .int x3]) (n := 5) (Nat.le_of_ble_eq_true rfl)
  rw [lg_entry_eq]
  generalize (lg_sl ([.ref (mh g), .int x1, .int x2, .int x3]) ++ List.replicate (5 - (lg_sl ([.ref (mh g), .int x1, .int x2, .int x3])).length) Slot.unset).toArray = ls at hl ⊢
  have hl : lv_has ls 5 [(0, .ref (mh g)), (1, .int x1), (2, .int x2), (3, .int x3)] := hl
  unfold w9_letter at hw
  refine lv_aload_n hx hb dX9_letter_0 rfl (lv_at hl 0 rfl) ?_
  refine lv_iload_n hx hb dX9_letter_1 rfl (lv_at hl 1 rfl) ?_
  refine lv_iload_n hx hb dX9_letter_2 rfl (lv_at hl 2 rfl) ?_
  refine mo_calli (As := [.int x1, .int x2]) S hK hM hS (m9_isLetterOf l g V A x1 x2 _ hI hw) (cwV 2 hts (lw_V q1037 q1039 qs36 q64 q1040) rfl rfl rfl (by decide +kernel) ⟨Nat.le_of_ble_eq_true rfl, Nat.le_of_ble_eq_true rfl⟩) rfl hl.1 rfl (lv_room (Nat.le_of_ble_eq_true rfl)) dX9_letter_3 ⟨Nat.zero_le _, Nat.zero_le _⟩ (fun r3 V1 A2 H locs hw hM hS => ?_)
  refine lv_if_ne (tgt := 11) hx hb dX9_letter_6 (by decide) (fun c4 => ?_) (fun c4 => ?_)
  · have hw := hw.2 c4
    refine lv_aload_n hx hb dX9_letter_11 rfl (lv_at hl 0 rfl) ?_
    refine mo_geta S hK hM 32 (by decide) q811 dX9_letter_12 rfl ?_
    refine lv_bipush (v := 40) hx hb dX9_letter_15 (by decide) ?_
    refine lv_iload_n hx hb dX9_letter_17 rfl (lv_at hl 1 rfl) ?_
    refine lv_imul hx hb dX9_letter_18 ?_
    refine lv_iload_n hx hb dX9_letter_19 rfl (lv_at hl 2 rfl) ?_
    refine lv_iadd hx hb dX9_letter_20 ?_
    have hin := hw.1
    have hw := hw.2
    refine mo_ald S hK hM 32 rfl hin dX9_letter_21 ?_
    refine lv_topi (fun y4_5 ey4_5 => ?_)
    have hw := hw y4_5 ey4_5
    refine lv_istore (lv' := [(4, .int y4_5), (0, .ref (mh g)), (1, .int x1), (2, .int x2), (3, .int x3)]) hx hb dX9_letter_22 hl (by decide) rfl (fun ls hl => ?_)
    refine lv_iload_n hx hb dX9_letter_24 rfl (lv_at hl 4 rfl) ?_
    refine lv_if_ne (tgt := 31) hx hb dX9_letter_25 (by decide) (fun c6 => ?_) (fun c6 => ?_)
    · have hw := hw.2 c6
      refine lv_iload_n hx hb dX9_letter_31 rfl (lv_at hl 4 rfl) ?_
      refine lv_iconst (v := 1) hx hb dX9_letter_32 (by decide) ?_
      refine lv_icmp_lt (tgt := 64) hx hb dX9_letter_33 (by decide) (fun c7 => ?_) (fun c7 => ?_)
      · have hw := hw.1 c7
        refine lv_iconst (v := (-1)) hx hb dX9_letter_64 (by decide) ?_
        exact mo_iret S hr hlocks hM hS hw dX9_letter_65
      · have hw := hw.2 c7
        refine lv_iload_n hx hb dX9_letter_36 rfl (lv_at hl 4 rfl) ?_
        refine lv_iload hx hb dX9_letter_37 (lv_at hl 0 rfl) ?_
        refine lv_icmp_gt (tgt := 64) hx hb dX9_letter_39 (by decide) (fun c8 => ?_) (fun c8 => ?_)
        · have hw := hw.1 c8
          refine lv_iconst (v := (-1)) hx hb dX9_letter_64 (by decide) ?_
          exact mo_iret S hr hlocks hM hS hw dX9_letter_65
        · have hw := hw.2 c8
          refine lv_aload_n hx hb dX9_letter_42 rfl (lv_at hl 1 rfl) ?_
          refine mo_geta S hK hM 31 (by decide) q810 dX9_letter_43 rfl ?_
          refine lv_sipush (v := 1100) hx hb dX9_letter_46 (by decide) ?_
          refine lv_bipush (v := 40) hx hb dX9_letter_49 (by decide) ?_
          refine lv_iload_n hx hb dX9_letter_51 rfl (lv_at hl 2 rfl) ?_
          refine lv_imul hx hb dX9_letter_52 ?_
          refine lv_iload_n hx hb dX9_letter_53 rfl (lv_at hl 3 rfl) ?_
          refine lv_iadd hx hb dX9_letter_54 ?_
          refine lv_imul hx hb dX9_letter_55 ?_
          refine lv_iload_n hx hb dX9_letter_56 rfl (lv_at hl 4 rfl) ?_
          refine lv_iadd hx hb dX9_letter_57 ?_
          refine lv_iconst (v := 1) hx hb dX9_letter_58 (by decide) ?_
          refine lv_isub hx hb dX9_letter_59 ?_
          have hin := hw.1
          have hw := hw.2
          refine mo_ald S hK hM 31 rfl hin dX9_letter_60 ?_
          refine lv_goto (tgt := 65) hx hb dX9_letter_61 (by decide) ?_
          exact mo_iret S hr hlocks hM hS hw dX9_letter_65
    · have hw := hw.1 c6
      refine lv_iload hx hb dX9_letter_28 (lv_at hl 0 rfl) ?_
      exact mo_iret S hr hlocks hM hS hw dX9_letter_30
  · have hw := hw.1 c4
    refine lv_iconst (v := (-1)) hx hb dX9_letter_9 (by decide) ?_
    exact mo_iret S hr hlocks hM hS hw dX9_letter_10
/-! FarTypewriterModel.count(I)I -/
abbrev rm9_count : Room := { frames := 0, cells := 0, slots := 0, locals := 0 }
def w9_count (post : Int32 → VV → AA → Prop) (V : VV) (A : AA) (x1 : Int32) : Prop :=
  (x1 = 10 → post (V 11) V A) ∧ (x1 = 11 → post (V 37) V A) ∧ (x1 = 12 → post (V 38) V A) ∧ (x1 = 13 → post (V 39) V A) ∧ (x1 = 14 → vp_in 0 2 ∧ post (A 30 (0 : Int32).toNatClampNeg) V A) ∧ (x1 = 15 → vp_in 1 2 ∧ post (A 30 (1 : Int32).toNatClampNeg) V A) ∧ (¬ x1 = 10 → ¬ x1 = 11 → ¬ x1 = 12 → ¬ x1 = 13 → ¬ x1 = 14 → ¬ x1 = 15 → (x1 < 0 → post (-1) V A) ∧ (¬ x1 < 0 → (10 ≤ x1 → post (-1) V A) ∧ (¬ 10 ≤ x1 → vp_in x1 10 ∧ post (A 29 x1.toNatClampNeg) V A)))
set_option maxHeartbeats 4000000 in
set_option maxRecDepth 100000 in
theorem m9_count (l : Launch) (g : MG) (V : VV) (A : AA) (x1 : Int32) (post : Int32 → VV → AA → Prop) (hI : HI g) (hw : w9_count post V A x1) : Met l yX9_count (ws_ yX9_count cX9_count 2 (some .int)) rm9_count (MPc g V A [.ref (mh g), .int x1]) (MQi g post) 0 0 (HA g) := by
  refine Met.ofW (cc := cX9_count) (maxL := 2) (ret := (some .int)) (by decide) rfl ?_
  intro p e s m args below meth c s₁ B hml hv
  obtain ⟨rfl, hK, hM⟩ := hv
  have hx := B.exec
  have hb := B.bytes
  have hr : meth.sig.returnType = (some .int) := B.returns
  have hts := atoms_spec (ws := ws_ yX9_count cX9_count 2 (some .int)) B.pre
  have hts : ∀ w ∈ lw_all, w.before _ s = true := fun w h => hts w (List.mem_cons_of_mem _ h)
  have hown : s.vm.findClass RX9 = some m.cls := findClass_of_methodNamed B.named
  have hlocks : meth.locks = false := B.notSynchronized
  have S : CallFix p m c cX9_count 2 s _ lw_all RX9 := ⟨hx, hb, hml, hown, hts⟩
  have hS : va_S (HA g) s.heap s.heap [] := va_S.rf
  have hl := lv_entry ([.ref (mh g), .int x1]) (n := 2) (Nat.le_of_ble_eq_true rfl)
  rw [lg_entry_eq]
  generalize (lg_sl ([.ref (mh g), .int x1]) ++ List.replicate (2 - (lg_sl ([.ref (mh g), .int x1])).length) Slot.unset).toArray = ls at hl ⊢
  have hl : lv_has ls 2 [(0, .ref (mh g)), (1, .int x1)] := hl
  unfold w9_count at hw
  refine lv_iload_n hx hb dX9_count_0 rfl (lv_at hl 1 rfl) ?_
  by_cases cs10 : x1 = 10
  · have hw := hw.1 cs10
    refine lv_tableIn (off := 39) (tgt := 40) hx hb dX9_count_1 (by rw [cs10]; decide) (by rw [cs10]; decide) (by rw [cs10]; decide) (by decide) ?_
    refine lv_aload_n hx hb dX9_count_40 rfl (lv_at hl 0 rfl) ?_
    refine mo_geti S hK hM 11 (by decide) q790 dX9_count_41 rfl ?_
    exact mo_iret S hr hlocks hM hS hw dX9_count_44
  by_cases cs11 : x1 = 11
  · have hw := hw.2.1 cs11
    refine lv_tableIn (off := 44) (tgt := 45) hx hb dX9_count_1 (by rw [cs11]; decide) (by rw [cs11]; decide) (by rw [cs11]; decide) (by decide) ?_
    refine lv_aload_n hx hb dX9_count_45 rfl (lv_at hl 0 rfl) ?_
    refine mo_geti S hK hM 37 (by decide) q816 dX9_count_46 rfl ?_
    exact mo_iret S hr hlocks hM hS hw dX9_count_49
  by_cases cs12 : x1 = 12
  · have hw := hw.2.2.1 cs12
    refine lv_tableIn (off := 49) (tgt := 50) hx hb dX9_count_1 (by rw [cs12]; decide) (by rw [cs12]; decide) (by rw [cs12]; decide) (by decide) ?_
    refine lv_aload_n hx hb dX9_count_50 rfl (lv_at hl 0 rfl) ?_
    refine mo_geti S hK hM 38 (by decide) q817 dX9_count_51 rfl ?_
    exact mo_iret S hr hlocks hM hS hw dX9_count_54
  by_cases cs13 : x1 = 13
  · have hw := hw.2.2.2.1 cs13
    refine lv_tableIn (off := 54) (tgt := 55) hx hb dX9_count_1 (by rw [cs13]; decide) (by rw [cs13]; decide) (by rw [cs13]; decide) (by decide) ?_
    refine lv_aload_n hx hb dX9_count_55 rfl (lv_at hl 0 rfl) ?_
    refine mo_geti S hK hM 39 (by decide) q818 dX9_count_56 rfl ?_
    exact mo_iret S hr hlocks hM hS hw dX9_count_59
  by_cases cs14 : x1 = 14
  · have hw := hw.2.2.2.2.1 cs14
    refine lv_tableIn (off := 59) (tgt := 60) hx hb dX9_count_1 (by rw [cs14]; decide) (by rw [cs14]; decide) (by rw [cs14]; decide) (by decide) ?_
    refine lv_aload_n hx hb dX9_count_60 rfl (lv_at hl 0 rfl) ?_
    refine mo_geta S hK hM 30 (by decide) q809 dX9_count_61 rfl ?_
    refine lv_iconst (v := 0) hx hb dX9_count_64 (by decide) ?_
    have hin := hw.1
    have hw := hw.2
    refine mo_ald S hK hM 30 rfl hin dX9_count_65 ?_
    exact mo_iret S hr hlocks hM hS hw dX9_count_66
  by_cases cs15 : x1 = 15
  · have hw := hw.2.2.2.2.2.1 cs15
    refine lv_tableIn (off := 66) (tgt := 67) hx hb dX9_count_1 (by rw [cs15]; decide) (by rw [cs15]; decide) (by rw [cs15]; decide) (by decide) ?_
    refine lv_aload_n hx hb dX9_count_67 rfl (lv_at hl 0 rfl) ?_
    refine mo_geta S hK hM 30 (by decide) q809 dX9_count_68 rfl ?_
    refine lv_iconst (v := 1) hx hb dX9_count_71 (by decide) ?_
    have hin := hw.1
    have hw := hw.2
    refine mo_ald S hK hM 30 rfl hin dX9_count_72 ?_
    exact mo_iret S hr hlocks hM hS hw dX9_count_73
  have hw := hw.2.2.2.2.2.2 cs10 cs11 cs12 cs13 cs14 cs15
  have ne10 := lv_neT (a := 10) cs10 rfl
  have ne11 := lv_neT (a := 11) cs11 rfl
  have ne12 := lv_neT (a := 12) cs12 rfl
  have ne13 := lv_neT (a := 13) cs13 rfl
  have ne14 := lv_neT (a := 14) cs14 rfl
  have ne15 := lv_neT (a := 15) cs15 rfl
  refine lv_tableOut (tgt := 74) hx hb dX9_count_1 (by omega) (by decide) ?_
  refine lv_iload_n hx hb dX9_count_74 rfl (lv_at hl 1 rfl) ?_
  refine lv_if_lt (tgt := 93) hx hb dX9_count_75 (by decide) (fun c1 => ?_) (fun c1 => ?_)
  · have hw := hw.1 c1
    refine lv_iconst (v := (-1)) hx hb dX9_count_93 (by decide) ?_
    exact mo_iret S hr hlocks hM hS hw dX9_count_94
  · have hw := hw.2 c1
    refine lv_iload_n hx hb dX9_count_78 rfl (lv_at hl 1 rfl) ?_
    refine lv_bipush (v := 10) hx hb dX9_count_79 (by decide) ?_
    refine lv_icmp_ge (tgt := 93) hx hb dX9_count_81 (by decide) (fun c2 => ?_) (fun c2 => ?_)
    · have hw := hw.1 c2
      refine lv_iconst (v := (-1)) hx hb dX9_count_93 (by decide) ?_
      exact mo_iret S hr hlocks hM hS hw dX9_count_94
    · have hw := hw.2 c2
      refine lv_aload_n hx hb dX9_count_84 rfl (lv_at hl 0 rfl) ?_
      refine mo_geta S hK hM 29 (by decide) q808 dX9_count_85 rfl ?_
      refine lv_iload_n hx hb dX9_count_88 rfl (lv_at hl 1 rfl) ?_
      have hin := hw.1
      have hw := hw.2
      refine mo_ald S hK hM 29 rfl hin dX9_count_89 ?_
      refine lv_goto (tgt := 94) hx hb dX9_count_90 (by decide) ?_
      exact mo_iret S hr hlocks hM hS hw dX9_count_94
