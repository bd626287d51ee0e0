/-! FarTypewriterModel.drops(II)V -/
abbrev rm9_drops : Room := { frames := 0, cells := 0, slots := 0, locals := 0 }
def b9_drops_41 (post : VV → AA → Prop) (k91 : VV → AA → Int32 → Int32 → Prop) (kb : VV → AA → Int32 → Int32 → Int32 → Int32 → Prop) (V : VV) (A : AA) (x1 x3 x4 x5 : Int32) : Prop :=
  vp_in x4 80 ∧ (((A 32 x4.toNatClampNeg) ≤ x5 → k91 V A x1 x3) ∧ (¬ (A 32 x4.toNatClampNeg) ≤ x5 → vp_in (((1100 * x4) + 1100) + x5) 88000 ∧ (vp_in ((1100 * x4) + x5) 88000 ∧ kb V (au A 31 ((1100 * x4) + x5).toNatClampNeg (A 31 (((1100 * x4) + 1100) + x5).toNatClampNeg)) x1 x3 x4 (x5 + 1))))
def w9_drops_41 (post : VV → AA → Prop) (k91 : VV → AA → Int32 → Int32 → Prop) : Nat → VV → AA → Int32 → Int32 → Int32 → Int32 → Prop
  | 0 => fun _ _ _ _ _ _ => False
  | n + 1 => b9_drops_41 post k91 (w9_drops_41 post k91 n)
set_option maxHeartbeats 4000000 in
set_option maxRecDepth 100000 in
theorem r9_drops_41 {p : Program} {l : Launch} {e : Env} {s : State} {m : MethodId} {args : Array Value} {below : List Frame} {meth : Method} {c : Code} {g : MG} (S : CallFix p m c cX9_drops 6 s args lw_all RX9) (hr : meth.sig.returnType = none) (hlocks : meth.locks = false) (hK : KM g s) (hI : HI g) {post : VV → AA → Prop} {k91 : VV → AA → Int32 → Int32 → Prop} (hk91 : ∀ (V : VV) (A : AA) (x1 x3 : Int32), k91 V A x1 x3 → ∀ (H : Heap) (locs : List Loc), HM g V A H → va_S (HA g) s.heap H locs → ∀ (ls : Array Slot), lv_has ls 6 [(0, .ref (mh g)), (1, .int x1), (3, .int x3)] → W p l e rm9_drops s m args below meth c H locs 0 0 (MQ below (MQv g post) args s 0 0 (HA g)) (F0 m 91 ls [])) : ∀ n : Nat, ∀ (V : VV) (A : AA) (x1 x3 x4 x5 : Int32), w9_drops_41 post k91 n V A x1 x3 x4 x5 → ∀ (H : Heap) (locs : List Loc), HM g V A H → va_S (HA g) s.heap H locs → ∀ (ls : Array Slot), lv_has ls 6 [(0, .ref (mh g)), (1, .int x1), (3, .int x3), (4, .int x4), (5, .int x5)] → W p l e rm9_drops s m args below meth c H locs 0 0 (MQ below (MQv g post) args s 0 0 (HA g)) (F0 m 41 ls []) := by
  have hx := S.1
  have hb := S.2.1
  have hown := S.2.2.2.1
  have hts := S.2.2.2.2
  intro n
  induction n with
  | zero =>
    intro V A x1 x3 x4 x5 hw
    exact hw.elim
  | succ n hkb =>
    intro V A x1 x3 x4 x5 hw H locs hM hS ls hl
    unfold w9_drops_41 b9_drops_41 at hw
    refine lv_iload hx hb dX9_drops_41 (lv_at hl 4 rfl) ?_
    refine lv_aload_n hx hb dX9_drops_43 rfl (lv_at hl 0 rfl) ?_
    refine mo_geta S hK hM 32 (by decide) q811 dX9_drops_44 rfl ?_
    refine lv_iload hx hb dX9_drops_47 (lv_at hl 3 rfl) ?_
    have hin := hw.1
    have hw := hw.2
    refine mo_ald S hK hM 32 rfl hin dX9_drops_49 ?_
    refine lv_icmp_ge (tgt := 91) hx hb dX9_drops_50 (by decide) (fun c3 => ?_) (fun c3 => ?_)
    · have hw := hw.1 c3
      exact hk91 _ _ _ _ hw _ _ hM hS _ (lv_sub hl [0, 1, 2] rfl)
    · have hw := hw.2 c3
      refine lv_aload_n hx hb dX9_drops_53 rfl (lv_at hl 0 rfl) ?_
      refine mo_geta S hK hM 31 (by decide) q810 dX9_drops_54 rfl ?_
      refine lv_sipush (v := 1100) hx hb dX9_drops_57 (by decide) ?_
      refine lv_iload hx hb dX9_drops_60 (lv_at hl 3 rfl) ?_
      refine lv_imul hx hb dX9_drops_62 ?_
      refine lv_iload hx hb dX9_drops_63 (lv_at hl 4 rfl) ?_
      refine lv_iadd hx hb dX9_drops_65 ?_
      refine lv_aload_n hx hb dX9_drops_66 rfl (lv_at hl 0 rfl) ?_
      refine mo_geta S hK hM 31 (by decide) q810 dX9_drops_67 rfl ?_
      refine lv_sipush (v := 1100) hx hb dX9_drops_70 (by decide) ?_
      refine lv_iload hx hb dX9_drops_73 (lv_at hl 3 rfl) ?_
      refine lv_imul hx hb dX9_drops_75 ?_
      refine lv_sipush (v := 1100) hx hb dX9_drops_76 (by decide) ?_
      refine lv_iadd hx hb dX9_drops_79 ?_
      refine lv_iload hx hb dX9_drops_80 (lv_at hl 4 rfl) ?_
      refine lv_iadd hx hb dX9_drops_82 ?_
      have hin := hw.1
      have hw := hw.2
      refine mo_ald S hK hM 31 rfl hin dX9_drops_83 ?_
      have hin := hw.1
      have hw := hw.2
      refine mo_ast S hK hI hM hS 31 rfl hin dX9_drops_84 (fun H locs hM hS => ?_)
      refine lv_iinc (v := x5 + 1) (lv' := [(5, .int (x5 + 1)), (0, .ref (mh g)), (1, .int x1), (3, .int x3), (4, .int x4)]) hx hb dX9_drops_85 hl (k := 4) rfl rfl (by decide) rfl (fun ls hl => ?_)
      refine lv_goto (tgt := 41) hx hb dX9_drops_88 (by decide) ?_
      exact hkb _ _ _ _ _ _ hw _ _ hM hS _ (lv_sub hl [1, 2, 3, 4, 0] rfl)
def b9_drops_2 (post : VV → AA → Prop)  (kb : VV → AA → Int32 → Int32 → Prop) (V : VV) (A : AA) (x1 x3 : Int32) : Prop :=
  vp_in x1 2 ∧ (((A 30 x1.toNatClampNeg) ≤ (x3 + 1) → vp_in x1 2 ∧ (vp_in x1 2 ∧ post V (au A 30 x1.toNatClampNeg ((A 30 x1.toNatClampNeg) - 1)))) ∧ (¬ (A 30 x1.toNatClampNeg) ≤ (x3 + 1) → ∀ y4_2 : Int32, y4_2 = (40 * x1) + x3 → (vp_in (y4_2 + 1) 80 ∧ (vp_in y4_2 80 ∧ (∃ n, w9_drops_41 post (fun (V6 : VV) (A7 : AA) (x1_4 x3_5 : Int32) => kb V6 A7 x1_4 (x3_5 + 1)) n V (au A 32 y4_2.toNatClampNeg (A 32 (y4_2 + 1).toNatClampNeg)) x1 x3 y4_2 0)))))
def w9_drops_2 (post : VV → AA → Prop)  : Nat → VV → AA → Int32 → Int32 → Prop
  | 0 => fun _ _ _ _ => False
  | n + 1 => b9_drops_2 post  (w9_drops_2 post  n)
set_option maxHeartbeats 4000000 in
set_option maxRecDepth 100000 in
theorem r9_drops_2 {p : Program} {l : Launch} {e : Env} {s : State} {m : MethodId} {args : Array Value} {below : List Frame} {meth : Method} {c : Code} {g : MG} (S : CallFix p m c cX9_drops 6 s args lw_all RX9) (hr : meth.sig.returnType = none) (hlocks : meth.locks = false) (hK : KM g s) (hI : HI g) {post : VV → AA → Prop}  : ∀ n : Nat, ∀ (V : VV) (A : AA) (x1 x3 : Int32), w9_drops_2 post  n V A x1 x3 → ∀ (H : Heap) (locs : List Loc), HM g V A H → va_S (HA g) s.heap H locs → ∀ (ls : Array Slot), lv_has ls 6 [(0, .ref (mh g)), (1, .int x1), (3, .int x3)] → W p l e rm9_drops s m args below meth c H locs 0 0 (MQ below (MQv g post) args s 0 0 (HA g)) (F0 m 2 ls []) := by
  have hx := S.1
  have hb := S.2.1
  have hown := S.2.2.2.1
  have hts := S.2.2.2.2
  intro n
  induction n with
  | zero =>
    intro V A x1 x3 hw
    exact hw.elim
  | succ n hkb =>
    intro V A x1 x3 hw H locs hM hS ls hl
    unfold w9_drops_2 b9_drops_2 at hw
    refine lv_iload_n hx hb dX9_drops_2 rfl (lv_at hl 2 rfl) ?_
    refine lv_iconst (v := 1) hx hb dX9_drops_3 (by decide) ?_
    refine lv_iadd hx hb dX9_drops_4 ?_
    refine lv_aload_n hx hb dX9_drops_5 rfl (lv_at hl 0 rfl) ?_
    refine mo_geta S hK hM 30 (by decide) q809 dX9_drops_6 rfl ?_
    refine lv_iload_n hx hb dX9_drops_9 rfl (lv_at hl 1 rfl) ?_
    have hin := hw.1
    have hw := hw.2
    refine mo_ald S hK hM 30 rfl hin dX9_drops_10 ?_
    refine lv_icmp_ge (tgt := 97) hx hb dX9_drops_11 (by decide) (fun c1 => ?_) (fun c1 => ?_)
    · have hw := hw.1 c1
      refine lv_aload_n hx hb dX9_drops_97 rfl (lv_at hl 0 rfl) ?_
      refine mo_geta S hK hM 30 (by decide) q809 dX9_drops_98 rfl ?_
      refine lv_iload_n hx hb dX9_drops_101 rfl (lv_at hl 1 rfl) ?_
      refine lv_dup2_11 hx hb dX9_drops_102 rfl rfl ?_
      have hin := hw.1
      have hw := hw.2
      refine mo_ald S hK hM 30 rfl hin dX9_drops_103 ?_
      refine lv_iconst (v := 1) hx hb dX9_drops_104 (by decide) ?_
      refine lv_isub hx hb dX9_drops_105 ?_
      have hin := hw.1
      have hw := hw.2
      refine mo_ast S hK hI hM hS 30 rfl hin dX9_drops_106 (fun H locs hM hS => ?_)
      exact mo_vret S hr hlocks hM hS hw dX9_drops_107
    · have hw := hw.2 c1
      refine lv_bipush (v := 40) hx hb dX9_drops_14 (by decide) ?_
      refine lv_iload_n hx hb dX9_drops_16 rfl (lv_at hl 1 rfl) ?_
      refine lv_imul hx hb dX9_drops_17 ?_
      refine lv_iload_n hx hb dX9_drops_18 rfl (lv_at hl 2 rfl) ?_
      refine lv_iadd hx hb dX9_drops_19 ?_
      refine lv_topi (fun y4_2 ey4_2 => ?_)
      have hw := hw y4_2 ey4_2
      refine lv_istore (lv' := [(4, .int y4_2), (0, .ref (mh g)), (1, .int x1), (3, .int x3)]) hx hb dX9_drops_20 hl (by decide) rfl (fun ls hl => ?_)
      refine lv_aload_n hx hb dX9_drops_22 rfl (lv_at hl 1 rfl) ?_
      refine mo_geta S hK hM 32 (by decide) q811 dX9_drops_23 rfl ?_
      refine lv_iload hx hb dX9_drops_26 (lv_at hl 0 rfl) ?_
      refine lv_aload_n hx hb dX9_drops_28 rfl (lv_at hl 1 rfl) ?_
      refine mo_geta S hK hM 32 (by decide) q811 dX9_drops_29 rfl ?_
      refine lv_iload hx hb dX9_drops_32 (lv_at hl 0 rfl) ?_
      refine lv_iconst (v := 1) hx hb dX9_drops_34 (by decide) ?_
      refine lv_iadd hx hb dX9_drops_35 ?_
      have hin := hw.1
      have hw := hw.2
      refine mo_ald S hK hM 32 rfl hin dX9_drops_36 ?_
      have hin := hw.1
      have hw := hw.2
      refine mo_ast S hK hI hM hS 32 rfl hin dX9_drops_37 (fun H locs hM hS => ?_)
      refine lv_iconst (v := 0) hx hb dX9_drops_38 (by decide) ?_
      refine lv_istore (lv' := [(5, .int 0), (4, .int y4_2), (0, .ref (mh g)), (1, .int x1), (3, .int x3)]) hx hb dX9_drops_39 hl (by decide) rfl (fun ls hl => ?_)
      obtain ⟨n, hw⟩ := hw
      refine r9_drops_41 S hr hlocks hK hI (fun V6 A7 x1_4 x3_5 hw H locs hM hS ls hl => ?_) n _ _ _ _ _ _ hw _ _ hM hS _ (lv_sub hl [2, 3, 4, 1, 0] rfl)
      refine lv_iinc (v := x3_5 + 1) (lv' := [(3, .int (x3_5 + 1)), (0, .ref (mh g)), (1, .int x1_4)]) hx hb dX9_drops_91 hl (k := 2) rfl rfl (by decide) rfl (fun ls hl => ?_)
      refine lv_goto (tgt := 2) hx hb dX9_drops_94 (by decide) ?_
      exact hkb _ _ _ _ hw _ _ hM hS _ (lv_sub hl [1, 2, 0] rfl)
def w9_drops (post : VV → AA → Prop) (V : VV) (A : AA) (x1 x2 : Int32) : Prop :=
  ∃ n, w9_drops_2 post  n V A x1 x2
set_option maxHeartbeats 4000000 in
set_option maxRecDepth 100000 in
theorem m9_drops (l : Launch) (g : MG) (V : VV) (A : AA) (x1 x2 : Int32) (post : VV → AA → Prop) (hI : HI g) (hw : w9_drops post V A x1 x2) : Met l yX9_drops (ws_ yX9_drops cX9_drops 6 none) rm9_drops (MPc g V A [.ref (mh g), .int x1, .int x2]) (MQv g post) 0 0 (HA g) := by
  refine Met.ofW (cc := cX9_drops) (maxL := 6) (ret := none) (by decide) rfl ?_
  intro p e s m args below meth c s₁ B hml hv
  obtain ⟨rfl, hK, hM⟩ := hv
  have hx := B.exec
  have hb := B.bytes
  have hr : meth.sig.returnType = none := B.returns
  have hts := atoms_spec (ws := ws_ yX9_drops cX9_drops 6 none) B.pre
  have hts : ∀ w ∈ lw_all, w.before _ s = true := fun w h => hts w (List.mem_cons_of_mem _ h)
  have hown : s.vm.findClass RX9 = some m.cls := findClass_of_methodNamed B.named
  have hlocks : meth.locks = false := B.notSynchronized
  have S : CallFix p m c cX9_drops 6 s _ lw_all RX9 := ⟨hx, hb, hml, hown, hts⟩
  have hS : va_S (HA g) s.heap s.heap [] := va_S.rf
  have hl := lv_entry ([.ref (mh g), .int x1, .int x2]) (n := 6) (Nat.le_of_ble_eq_true rfl)
  rw [lg_entry_eq]
  generalize (lg_sl ([.ref (mh g), .int x1, .int x2]) ++ List.replicate (6 - (lg_sl ([.ref (mh g), .int x1, .int x2])).length) Slot.unset).toArray = ls at hl ⊢
  have hl : lv_has ls 6 [(0, .ref (mh g)), (1, .int x1), (2, .int x2)] := hl
  unfold w9_drops at hw
  refine lv_iload_n hx hb dX9_drops_0 rfl (lv_at hl 2 rfl) ?_
  refine lv_istore_n (lv' := [(3, .int x2), (0, .ref (mh g)), (1, .int x1), (2, .int x2)]) hx hb dX9_drops_1 rfl hl (by decide) rfl (fun ls hl => ?_)
  obtain ⟨n, hw⟩ := hw
  refine r9_drops_2 S hr hlocks hK hI  n _ _ _ _ hw _ _ hM hS _ (lv_sub hl [1, 2, 0] rfl)
/-! FarTypewriterModel.twoAt(I)I -/
abbrev rm9_twoAt : Room := { frames := 0, cells := 0, slots := 0, locals := 0 }
def w9_twoAt (post : Int32 → VV → AA → Prop) (V : VV) (A : AA) (x1 : Int32) : Prop :=
  vp_in x1 1100 ∧ (vp_in (x1 + 1) 1100 ∧ post ((256 * (A 33 x1.toNatClampNeg)) + (A 33 (x1 + 1).toNatClampNeg)) V A)
set_option maxHeartbeats 4000000 in
set_option maxRecDepth 100000 in
theorem m9_twoAt (l : Launch) (g : MG) (V : VV) (A : AA) (x1 : Int32) (post : Int32 → VV → AA → Prop) (hI : HI g) (hw : w9_twoAt post V A x1) : Met l yX9_twoAt (ws_ yX9_twoAt cX9_twoAt 2 (some .int)) rm9_twoAt (MPc g V A [.ref (mh g), .int x1]) (MQi g post) 0 0 (HA g) := by
  refine Met.ofW (cc := cX9_twoAt) (maxL := 2) (ret := (some .int)) (by decide) rfl ?_
  intro p e s m args below meth c s₁ B hml hv
  obtain ⟨rfl, hK, hM⟩ := hv
  have hx := B.exec
  have hb := B.bytes
  have hr : meth.sig.returnType = (some .int) := B.returns
  have hts := atoms_spec (ws := ws_ yX9_twoAt cX9_twoAt 2 (some .int)) B.pre
  have hts : ∀ w ∈ lw_all, w.before _ s = true := fun w h => hts w (List.mem_cons_of_mem _ h)
  have hown : s.vm.findClass RX9 = some m.cls := findClass_of_methodNamed B.named
  have hlocks : meth.locks = false := B.notSynchronized
  have S : CallFix p m c cX9_twoAt 2 s _ lw_all RX9 := ⟨hx, hb, hml, hown, hts⟩
  have hS : va_S (HA g) s.heap s.heap [] := va_S.rf
  have hl := lv_entry ([.ref (mh g), .int x1]) (n := 2) (Nat.le_of_ble_eq_true rfl)
  rw [lg_entry_eq]
  generalize (lg_sl ([.ref (mh g), .int x1]) ++ List.replicate (2 - (lg_sl ([.ref (mh g), .int x1])).length) Slot.unset).toArray = ls at hl ⊢
  have hl : lv_has ls 2 [(0, .ref (mh g)), (1, .int x1)] := hl
  unfold w9_twoAt at hw
  refine lv_sipush (v := 256) hx hb dX9_twoAt_0 (by decide) ?_
  refine lv_aload_n hx hb dX9_twoAt_3 rfl (lv_at hl 0 rfl) ?_
  refine mo_geta S hK hM 33 (by decide) q812 dX9_twoAt_4 rfl ?_
  refine lv_iload_n hx hb dX9_twoAt_7 rfl (lv_at hl 1 rfl) ?_
  have hin := hw.1
  have hw := hw.2
  refine mo_ald S hK hM 33 rfl hin dX9_twoAt_8 ?_
  refine lv_imul hx hb dX9_twoAt_9 ?_
  refine lv_aload_n hx hb dX9_twoAt_10 rfl (lv_at hl 0 rfl) ?_
  refine mo_geta S hK hM 33 (by decide) q812 dX9_twoAt_11 rfl ?_
  refine lv_iload_n hx hb dX9_twoAt_14 rfl (lv_at hl 1 rfl) ?_
  refine lv_iconst (v := 1) hx hb dX9_twoAt_15 (by decide) ?_
  refine lv_iadd hx hb dX9_twoAt_16 ?_
  have hin := hw.1
  have hw := hw.2
  refine mo_ald S hK hM 33 rfl hin dX9_twoAt_17 ?_
  refine lv_iadd hx hb dX9_twoAt_18 ?_
  exact mo_iret S hr hlocks hM hS hw dX9_twoAt_19
/-! FarTypewriterModel.echo(I)V -/
abbrev rm9_echo : Room := { frames := 4, cells := 0, slots := 0, locals := 89 }
def w9_echo_108 (post : VV → AA → Prop)  (V : VV) (A : AA) (x1 : Int32) : Prop :=
  (x1 = 4 → vp_in 0 69 ∧ (((A 3 (0 : Int32).toNatClampNeg) ≤ 0 → post V A) ∧ (¬ (A 3 (0 : Int32).toNatClampNeg) ≤ 0 → vp_in 0 69 ∧ (vp_in 0 69 ∧ post V (au A 3 (0 : Int32).toNatClampNeg ((A 3 (0 : Int32).toNatClampNeg) - 1)))))) ∧ (¬ x1 = 4 → post V A)
set_option maxHeartbeats 4000000 in
set_option maxRecDepth 100000 in
theorem r9_echo_108 {p : Program} {l : Launch} {e : Env} {s : State} {m : MethodId} {args : Array Value} {below : List Frame} {meth : Method} {c : Code} {g : MG} (S : CallFix p m c cX9_echo 2 s args lw_all RX9) (hr : meth.sig.returnType = none) (hlocks : meth.locks = false) (hK : KM g s) (hI : HI g) {post : VV → AA → Prop}  : ∀ (V : VV) (A : AA) (x1 : Int32), w9_echo_108 post  V A x1 → ∀ (H : Heap) (locs : List Loc), HM g V A H → va_S (HA g) s.heap H locs → ∀ (ls : Array Slot), lv_has ls 2 [(0, .ref (mh g)), (1, .int x1)] → W p l e rm9_echo s m args below meth c H locs 0 0 (MQ below (MQv g post) args s 0 0 (HA g)) (F0 m 108 ls []) := by
  have hx := S.1
  have hb := S.2.1
  have hown := S.2.2.2.1
  have hts := S.2.2.2.2
  intro V A x1 hw H locs hM hS ls hl
  unfold w9_echo_108 at hw
  refine lv_iload_n hx hb dX9_echo_108 rfl (lv_at hl 1 rfl) ?_
  refine lv_iconst (v := 4) hx hb dX9_echo_109 (by decide) ?_
  refine lv_icmp_ne (tgt := 132) hx hb dX9_echo_110 (by decide) (fun c10 => ?_) (fun c10 => ?_)
  · have hw := hw.2 c10
    exact mo_vret S hr hlocks hM hS hw dX9_echo_132
  · have hw := hw.1 c10
    refine lv_aload_n hx hb dX9_echo_113 rfl (lv_at hl 0 rfl) ?_
    refine mo_geta S hK hM 3 (by decide) q782 dX9_echo_114 rfl ?_
    refine lv_iconst (v := 0) hx hb dX9_echo_117 (by decide) ?_
    have hin := hw.1
    have hw := hw.2
    refine mo_ald S hK hM 3 rfl hin dX9_echo_118 ?_
    refine lv_if_le (tgt := 132) hx hb dX9_echo_119 (by decide) (fun c11 => ?_) (fun c11 => ?_)
    · have hw := hw.1 c11
      exact mo_vret S hr hlocks hM hS hw dX9_echo_132
    · have hw := hw.2 c11
      refine lv_aload_n hx hb dX9_echo_122 rfl (lv_at hl 0 rfl) ?_
      refine mo_geta S hK hM 3 (by decide) q782 dX9_echo_123 rfl ?_
      refine lv_iconst (v := 0) hx hb dX9_echo_126 (by decide) ?_
      refine lv_dup2_11 hx hb dX9_echo_127 rfl rfl ?_
      have hin := hw.1
      have hw := hw.2
      refine mo_ald S hK hM 3 rfl hin dX9_echo_128 ?_
      refine lv_iconst (v := 1) hx hb dX9_echo_129 (by decide) ?_
      refine lv_isub hx hb dX9_echo_130 ?_
      have hin := hw.1
      have hw := hw.2
      refine mo_ast S hK hI hM hS 3 rfl hin dX9_echo_131 (fun H locs hM hS => ?_)
      exact mo_vret S hr hlocks hM hS hw dX9_echo_132
def w9_echo_82 (post : VV → AA → Prop)  (V : VV) (A : AA) (x1 : Int32) : Prop :=
  (x1 = 3 → vp_in 0 69 ∧ ((23 ≤ (A 3 (0 : Int32).toNatClampNeg) → w9_echo_108 post V A x1) ∧ (¬ 23 ≤ (A 3 (0 : Int32).toNatClampNeg) → vp_in 0 69 ∧ (vp_in 0 69 ∧ w9_echo_108 post V (au A 3 (0 : Int32).toNatClampNeg ((A 3 (0 : Int32).toNatClampNeg) + 1)) x1)))) ∧ (¬ x1 = 3 → w9_echo_108 post V A x1)
set_option maxHeartbeats 4000000 in
set_option maxRecDepth 100000 in
theorem r9_echo_82 {p : Program} {l : Launch} {e : Env} {s : State} {m : MethodId} {args : Array Value} {below : List Frame} {meth : Method} {c : Code} {g : MG} (S : CallFix p m c cX9_echo 2 s args lw_all RX9) (hr : meth.sig.returnType = none) (hlocks : meth.locks = false) (hK : KM g s) (hI : HI g) {post : VV → AA → Prop}  : ∀ (V : VV) (A : AA) (x1 : Int32), w9_echo_82 post  V A x1 → ∀ (H : Heap) (locs : List Loc), HM g V A H → va_S (HA g) s.heap H locs → ∀ (ls : Array Slot), lv_has ls 2 [(0, .ref (mh g)), (1, .int x1)] → W p l e rm9_echo s m args below meth c H locs 0 0 (MQ below (MQv g post) args s 0 0 (HA g)) (F0 m 82 ls []) := by
  have hx := S.1
  have hb := S.2.1
  have hown := S.2.2.2.1
  have hts := S.2.2.2.2
  intro V A x1 hw H locs hM hS ls hl
  unfold w9_echo_82 at hw
  refine lv_iload_n hx hb dX9_echo_82 rfl (lv_at hl 1 rfl) ?_
  refine lv_iconst (v := 3) hx hb dX9_echo_83 (by decide) ?_
  refine lv_icmp_ne (tgt := 108) hx hb dX9_echo_84 (by decide) (fun c9 => ?_) (fun c9 => ?_)
  · have hw := hw.2 c9
    exact r9_echo_108 S hr hlocks hK hI  _ _ _ hw _ _ hM hS _ (lv_sub hl [0, 1] rfl)
  · have hw := hw.1 c9
    refine lv_aload_n hx hb dX9_echo_87 rfl (lv_at hl 0 rfl) ?_
    refine mo_geta S hK hM 3 (by decide) q782 dX9_echo_88 rfl ?_
    refine lv_iconst (v := 0) hx hb dX9_echo_91 (by decide) ?_
    have hin := hw.1
    have hw := hw.2
    refine mo_ald S hK hM 3 rfl hin dX9_echo_92 ?_
    refine lv_bipush (v := 23) hx hb dX9_echo_93 (by decide) ?_
    refine lv_icmp_ge (tgt := 108) hx hb dX9_echo_95 (by decide) (fun c12 => ?_) (fun c12 => ?_)
    · have hw := hw.1 c12
      exact r9_echo_108 S hr hlocks hK hI  _ _ _ hw _ _ hM hS _ (lv_sub hl [0, 1] rfl)
    · have hw := hw.2 c12
      refine lv_aload_n hx hb dX9_echo_98 rfl (lv_at hl 0 rfl) ?_
      refine mo_geta S hK hM 3 (by decide) q782 dX9_echo_99 rfl ?_
      refine lv_iconst (v := 0) hx hb dX9_echo_102 (by decide) ?_
      refine lv_dup2_11 hx hb dX9_echo_103 rfl rfl ?_
      have hin := hw.1
      have hw := hw.2
      refine mo_ald S hK hM 3 rfl hin dX9_echo_104 ?_
      refine lv_iconst (v := 1) hx hb dX9_echo_105 (by decide) ?_
      refine lv_iadd hx hb dX9_echo_106 ?_
      have hin := hw.1
      have hw := hw.2
      refine mo_ast S hK hI hM hS 3 rfl hin dX9_echo_107 (fun H locs hM hS => ?_)
      exact r9_echo_108 S hr hlocks hK hI  _ _ _ hw _ _ hM hS _ (lv_sub hl [0, 1] rfl)
def w9_echo_56 (post : VV → AA → Prop)  (V : VV) (A : AA) (x1 : Int32) : Prop :=
  (x1 = 2 → vp_in 0 69 ∧ ((7 ≤ (A 2 (0 : Int32).toNatClampNeg) → w9_echo_82 post V A x1) ∧ (¬ 7 ≤ (A 2 (0 : Int32).toNatClampNeg) → vp_in 0 69 ∧ (vp_in 0 69 ∧ w9_echo_82 post V (au A 2 (0 : Int32).toNatClampNeg ((A 2 (0 : Int32).toNatClampNeg) + 1)) x1)))) ∧ (¬ x1 = 2 → w9_echo_82 post V A x1)
set_option maxHeartbeats 4000000 in
set_option maxRecDepth 100000 in
theorem r9_echo_56 {p : Program} {l : Launch} {e : Env} {s : State} {m : MethodId} {args : Array Value} {below : List Frame} {meth : Method} {c : Code} {g : MG} (S : CallFix p m c cX9_echo 2 s args lw_all RX9) (hr : meth.sig.returnType = none) (hlocks : meth.locks = false) (hK : KM g s) (hI : HI g) {post : VV → AA → Prop}  : ∀ (V : VV) (A : AA) (x1 : Int32), w9_echo_56 post  V A x1 → ∀ (H : Heap) (locs : List Loc), HM g V A H → va_S (HA g) s.heap H locs → ∀ (ls : Array Slot), lv_has ls 2 [(0, .ref (mh g)), (1, .int x1)] → W p l e rm9_echo s m args below meth c H locs 0 0 (MQ below (MQv g post) args s 0 0 (HA g)) (F0 m 56 ls []) := by
  have hx := S.1
  have hb := S.2.1
  have hown := S.2.2.2.1
  have hts := S.2.2.2.2
  intro V A x1 hw H locs hM hS ls hl
  unfold w9_echo_56 at hw
  refine lv_iload_n hx hb dX9_echo_56 rfl (lv_at hl 1 rfl) ?_
  refine lv_iconst (v := 2) hx hb dX9_echo_57 (by decide) ?_
  refine lv_icmp_ne (tgt := 82) hx hb dX9_echo_58 (by decide) (fun c8 => ?_) (fun c8 => ?_)
  · have hw := hw.2 c8
    exact r9_echo_82 S hr hlocks hK hI  _ _ _ hw _ _ hM hS _ (lv_sub hl [0, 1] rfl)
  · have hw := hw.1 c8
    refine lv_aload_n hx hb dX9_echo_61 rfl (lv_at hl 0 rfl) ?_
    refine mo_geta S hK hM 2 (by decide) q781 dX9_echo_62 rfl ?_
    refine lv_iconst (v := 0) hx hb dX9_echo_65 (by decide) ?_
    have hin := hw.1
    have hw := hw.2
    refine mo_ald S hK hM 2 rfl hin dX9_echo_66 ?_
    refine lv_bipush (v := 7) hx hb dX9_echo_67 (by decide) ?_
    refine lv_icmp_ge (tgt := 82) hx hb dX9_echo_69 (by decide) (fun c13 => ?_) (fun c13 => ?_)
    · have hw := hw.1 c13
      exact r9_echo_82 S hr hlocks hK hI  _ _ _ hw _ _ hM hS _ (lv_sub hl [0, 1] rfl)
    · have hw := hw.2 c13
      refine lv_aload_n hx hb dX9_echo_72 rfl (lv_at hl 0 rfl) ?_
      refine mo_geta S hK hM 2 (by decide) q781 dX9_echo_73 rfl ?_
      refine lv_iconst (v := 0) hx hb dX9_echo_76 (by decide) ?_
      refine lv_dup2_11 hx hb dX9_echo_77 rfl rfl ?_
      have hin := hw.1
      have hw := hw.2
      refine mo_ald S hK hM 2 rfl hin dX9_echo_78 ?_
      refine lv_iconst (v := 1) hx hb dX9_echo_79 (by decide) ?_
      refine lv_iadd hx hb dX9_echo_80 ?_
      have hin := hw.1
      have hw := hw.2
      refine mo_ast S hK hI hM hS 2 rfl hin dX9_echo_81 (fun H locs hM hS => ?_)
      exact r9_echo_82 S hr hlocks hK hI  _ _ _ hw _ _ hM hS _ (lv_sub hl [0, 1] rfl)
def w9_echo_32 (post : VV → AA → Prop)  (V : VV) (A : AA) (x1 : Int32) : Prop :=
  (x1 = 1 → vp_in 0 69 ∧ (((A 2 (0 : Int32).toNatClampNeg) ≤ 0 → w9_echo_56 post V A x1) ∧ (¬ (A 2 (0 : Int32).toNatClampNeg) ≤ 0 → vp_in 0 69 ∧ (vp_in 0 69 ∧ w9_echo_56 post V (au A 2 (0 : Int32).toNatClampNeg ((A 2 (0 : Int32).toNatClampNeg) - 1)) x1)))) ∧ (¬ x1 = 1 → w9_echo_56 post V A x1)
set_option maxHeartbeats 4000000 in
set_option maxRecDepth 100000 in
theorem r9_echo_32 {p : Program} {l : Launch} {e : Env} {s : State} {m : MethodId} {args : Array Value} {below : List Frame} {meth : Method} {c : Code} {g : MG} (S : CallFix p m c cX9_echo 2 s args lw_all RX9) (hr : meth.sig.returnType = none) (hlocks : meth.locks = false) (hK : KM g s) (hI : HI g) {post : VV → AA → Prop}  : ∀ (V : VV) (A : AA) (x1 : Int32), w9_echo_32 post  V A x1 → ∀ (H : Heap) (locs : List Loc), HM g V A H → va_S (HA g) s.heap H locs → ∀ (ls : Array Slot), lv_has ls 2 [(0, .ref (mh g)), (1, .int x1)] → W p l e rm9_echo s m args below meth c H locs 0 0 (MQ below (MQv g post) args s 0 0 (HA g)) (F0 m 32 ls []) := by
  have hx := S.1
  have hb := S.2.1
  have hown := S.2.2.2.1
  have hts := S.2.2.2.2
  intro V A x1 hw H locs hM hS ls hl
  unfold w9_echo_32 at hw
  refine lv_iload_n hx hb dX9_echo_32 rfl (lv_at hl 1 rfl) ?_
  refine lv_iconst (v := 1) hx hb dX9_echo_33 (by decide) ?_
  refine lv_icmp_ne (tgt := 56) hx hb dX9_echo_34 (by decide) (fun c7 => ?_) (fun c7 => ?_)
  · have hw := hw.2 c7
    exact r9_echo_56 S hr hlocks hK hI  _ _ _ hw _ _ hM hS _ (lv_sub hl [0, 1] rfl)
  · have hw := hw.1 c7
    refine lv_aload_n hx hb dX9_echo_37 rfl (lv_at hl 0 rfl) ?_
    refine mo_geta S hK hM 2 (by decide) q781 dX9_echo_38 rfl ?_
    refine lv_iconst (v := 0) hx hb dX9_echo_41 (by decide) ?_
    have hin := hw.1
    have hw := hw.2
    refine mo_ald S hK hM 2 rfl hin dX9_echo_42 ?_
    refine lv_if_le (tgt := 56) hx hb dX9_echo_43 (by decide) (fun c14 => ?_) (fun c14 => ?_)
    · have hw := hw.1 c14
      exact r9_echo_56 S hr hlocks hK hI  _ _ _ hw _ _ hM hS _ (lv_sub hl [0, 1] rfl)
    · have hw := hw.2 c14
      refine lv_aload_n hx hb dX9_echo_46 rfl (lv_at hl 0 rfl) ?_
      refine mo_geta S hK hM 2 (by decide) q781 dX9_echo_47 rfl ?_
      refine lv_iconst (v := 0) hx hb dX9_echo_50 (by decide) ?_
      refine lv_dup2_11 hx hb dX9_echo_51 rfl rfl ?_
      have hin := hw.1
      have hw := hw.2
      refine mo_ald S hK hM 2 rfl hin dX9_echo_52 ?_
      refine lv_iconst (v := 1) hx hb dX9_echo_53 (by decide) ?_
      refine lv_isub hx hb dX9_echo_54 ?_
      have hin := hw.1
      have hw := hw.2
      refine mo_ast S hK hI hM hS 2 rfl hin dX9_echo_55 (fun H locs hM hS => ?_)
      exact r9_echo_56 S hr hlocks hK hI  _ _ _ hw _ _ hM hS _ (lv_sub hl [0, 1] rfl)
def w9_echo_22 (post : VV → AA → Prop)  (V : VV) (A : AA) (x1 : Int32) : Prop :=
  (x1 = 8 → w9_back (fun (V15 : VV) (A16 : AA) => w9_echo_32 post V15 A16 x1) V A ) ∧ (¬ x1 = 8 → w9_echo_32 post V A x1)
set_option maxHeartbeats 4000000 in
set_option maxRecDepth 100000 in
theorem r9_echo_22 {p : Program} {l : Launch} {e : Env} {s : State} {m : MethodId} {args : Array Value} {below : List Frame} {meth : Method} {c : Code} {g : MG} (S : CallFix p m c cX9_echo 2 s args lw_all RX9) (hr : meth.sig.returnType = none) (hlocks : meth.locks = false) (hK : KM g s) (hI : HI g) {post : VV → AA → Prop}  : ∀ (V : VV) (A : AA) (x1 : Int32), w9_echo_22 post  V A x1 → ∀ (H : Heap) (locs : List Loc), HM g V A H → va_S (HA g) s.heap H locs → ∀ (ls : Array Slot), lv_has ls 2 [(0, .ref (mh g)), (1, .int x1)] → W p l e rm9_echo s m args below meth c H locs 0 0 (MQ below (MQv g post) args s 0 0 (HA g)) (F0 m 22 ls []) := by
  have hx := S.1
  have hb := S.2.1
  have hown := S.2.2.2.1
  have hts := S.2.2.2.2
  intro V A x1 hw H locs hM hS ls hl
  unfold w9_echo_22 at hw
  refine lv_iload_n hx hb dX9_echo_22 rfl (lv_at hl 1 rfl) ?_
  refine lv_bipush (v := 8) hx hb dX9_echo_23 (by decide) ?_
  refine lv_icmp_ne (tgt := 32) hx hb dX9_echo_25 (by decide) (fun c6 => ?_) (fun c6 => ?_)
  · have hw := hw.2 c6
    exact r9_echo_32 S hr hlocks hK hI  _ _ _ hw _ _ hM hS _ (lv_sub hl [0, 1] rfl)
  · have hw := hw.1 c6
    refine lv_aload_n hx hb dX9_echo_28 rfl (lv_at hl 0 rfl) ?_
    refine mo_callv (As := []) S hK hM hS (m9_back l g V A  _ hI hw) (cwV 0 hts (lw_V q945 q947 qs20 q64 q948) rfl rfl rfl (by decide +kernel) ⟨Nat.le_of_ble_eq_true rfl, Nat.le_of_ble_eq_true rfl⟩) rfl hl.1 rfl (lv_room (Nat.le_of_ble_eq_true rfl)) dX9_echo_29 ⟨Nat.zero_le _, Nat.zero_le _⟩ (fun V15 A16 H locs hw hM hS => ?_)
    exact r9_echo_32 S hr hlocks hK hI  _ _ _ hw _ _ hM hS _ (lv_sub hl [0, 1] rfl)
def w9_echo_12 (post : VV → AA → Prop)  (V : VV) (A : AA) (x1 : Int32) : Prop :=
  (x1 = 13 → w9_newLine (fun (V18 : VV) (A19 : AA) => w9_echo_22 post V18 A19 x1) V A ) ∧ (¬ x1 = 13 → w9_echo_22 post V A x1)
set_option maxHeartbeats 4000000 in
set_option maxRecDepth 100000 in
theorem r9_echo_12 {p : Program} {l : Launch} {e : Env} {s : State} {m : MethodId} {args : Array Value} {below : List Frame} {meth : Method} {c : Code} {g : MG} (S : CallFix p m c cX9_echo 2 s args lw_all RX9) (hr : meth.sig.returnType = none) (hlocks : meth.locks = false) (hK : KM g s) (hI : HI g) {post : VV → AA → Prop}  : ∀ (V : VV) (A : AA) (x1 : Int32), w9_echo_12 post  V A x1 → ∀ (H : Heap) (locs : List Loc), HM g V A H → va_S (HA g) s.heap H locs → ∀ (ls : Array Slot), lv_has ls 2 [(0, .ref (mh g)), (1, .int x1)] → W p l e rm9_echo s m args below meth c H locs 0 0 (MQ below (MQv g post) args s 0 0 (HA g)) (F0 m 12 ls []) := by
  have hx := S.1
  have hb := S.2.1
  have hown := S.2.2.2.1
  have hts := S.2.2.2.2
  intro V A x1 hw H locs hM hS ls hl
  unfold w9_echo_12 at hw
  refine lv_iload_n hx hb dX9_echo_12 rfl (lv_at hl 1 rfl) ?_
  refine lv_bipush (v := 13) hx hb dX9_echo_13 (by decide) ?_
  refine lv_icmp_ne (tgt := 22) hx hb dX9_echo_15 (by decide) (fun c5 => ?_) (fun c5 => ?_)
  · have hw := hw.2 c5
    exact r9_echo_22 S hr hlocks hK hI  _ _ _ hw _ _ hM hS _ (lv_sub hl [0, 1] rfl)
  · have hw := hw.1 c5
    refine lv_aload_n hx hb dX9_echo_18 rfl (lv_at hl 0 rfl) ?_
    refine mo_callv (As := []) S hK hM hS (m9_newLine l g V A  _ hI hw) (cwV 0 hts (lw_V q937 q939 qs18 q64 q940) rfl rfl rfl (by decide +kernel) ⟨Nat.le_of_ble_eq_true rfl, Nat.le_of_ble_eq_true rfl⟩) rfl hl.1 rfl (lv_room (Nat.le_of_ble_eq_true rfl)) dX9_echo_19 ⟨Nat.zero_le _, Nat.zero_le _⟩ (fun V18 A19 H locs hw hM hS => ?_)
    exact r9_echo_22 S hr hlocks hK hI  _ _ _ hw _ _ hM hS _ (lv_sub hl [0, 1] rfl)
def w9_echo (post : VV → AA → Prop) (V : VV) (A : AA) (x1 : Int32) : Prop :=
  w9_isLetter (fun (r3 : Int32) (V1 : VV) (A2 : AA) => (r3 = 0 → w9_echo_12 post V1 A2 x1) ∧ (¬ r3 = 0 → w9_puts (fun (V21 : VV) (A22 : AA) => w9_echo_12 post V21 A22 x1) V1 A2 x1)) V A x1
set_option maxHeartbeats 4000000 in
set_option maxRecDepth 100000 in
theorem m9_echo (l : Launch) (g : MG) (V : VV) (A : AA) (x1 : Int32) (post : VV → AA → Prop) (hI : HI g) (hw : w9_echo post V A x1) : Met l yX9_echo (ws_ yX9_echo cX9_echo 2 none) rm9_echo (MPc g V A [.ref (mh g), .int x1]) (MQv g post) 0 0 (HA g) := by
  refine Met.ofW (cc := cX9_echo) (maxL := 2) (ret := none) (by decide) rfl ?_
  intro p e s m args below meth c s₁ B hml hv
  obtain ⟨rfl, hK, hM⟩ := hv
  have hx := B.exec
  have hb := B.bytes
  have hr : meth.sig.returnType = none := B.returns
  have hts := atoms_spec (ws := ws_ yX9_echo cX9_echo 2 none) B.pre
  have hts : ∀ w ∈ lw_all, w.before _ s = true := fun w h => hts w (List.mem_cons_of_mem _ h)
  have hown : s.vm.findClass RX9 = some m.cls := findClass_of_methodNamed B.named
  have hlocks : meth.locks = false := B.notSynchronized
  have S : CallFix p m c cX9_echo 2 s _ lw_all RX9 := ⟨hx, hb, hml, hown, hts⟩
  have hS : va_S (HA g) s.heap s.heap [] := va_S.rf
  have hl := lv_entry ([.ref (mh g), .int x1]) (n := 2) (Nat.le_of_ble_eq_true rfl)
  rw [lg_entry_eq]
  generalize (lg_sl ([.ref (mh g), .int x1]) ++ List.replicate (2 - (lg_sl ([.ref (mh g), .int x1])).length) Slot.unset).toArray = ls at hl ⊢
  have hl : lv_has ls 2 [(0, .ref (mh g)), (1, .int x1)] := hl
  unfold w9_echo at hw
  refine lv_iload_n hx hb dX9_echo_0 rfl (lv_at hl 1 rfl) ?_
  refine mo_scalli (As := [.int x1]) S hK hM hS (m9_isLetter l g V A x1 _ hI hw) (va_cwS 1 hts (lw_S q930 q931 q64 q932) rfl rfl rfl (by decide +kernel) ⟨Nat.le_of_ble_eq_true rfl, Nat.le_of_ble_eq_true rfl⟩) rfl hl.1 rfl (lv_room (Nat.le_of_ble_eq_true rfl)) dX9_echo_1 ⟨Nat.zero_le _, Nat.zero_le _⟩ (fun r3 V1 A2 H locs hw hM hS => ?_)
  refine lv_if_eq (tgt := 12) hx hb dX9_echo_4 (by decide) (fun c4 => ?_) (fun c4 => ?_)
  · have hw := hw.1 c4
    exact r9_echo_12 S hr hlocks hK hI  _ _ _ hw _ _ hM hS _ (lv_sub hl [0, 1] rfl)
  · have hw := hw.2 c4
    refine lv_aload_n hx hb dX9_echo_7 rfl (lv_at hl 0 rfl) ?_
    refine lv_iload_n hx hb dX9_echo_8 rfl (lv_at hl 1 rfl) ?_
    refine mo_callv (As := [.int x1]) S hK hM hS (m9_puts l g V1 A2 x1 _ hI hw) (cwV 1 hts (lw_V q933 q935 qs17 q64 q936) rfl rfl rfl (by decide +kernel) ⟨Nat.le_of_ble_eq_true rfl, Nat.le_of_ble_eq_true rfl⟩) rfl hl.1 rfl (lv_room (Nat.le_of_ble_eq_true rfl)) dX9_echo_9 ⟨Nat.zero_le _, Nat.zero_le _⟩ (fun V21 A22 H locs hw hM hS => ?_)
    exact r9_echo_12 S hr hlocks hK hI  _ _ _ hw _ _ hM hS _ (lv_sub hl [0, 1] rfl)
/-! FarTypewriterModel.lines(I)V -/
abbrev rm9_lines : Room := { frames := 5, cells := 0, slots := 0, locals := 110 }
def w9_lines_50 (post : VV → AA → Prop)  (V : VV) (A : AA) (x1 : Int32) : Prop :=
  w9_echo (fun (V9 : VV) (A10 : AA) => (x1 = 13 → w9_puts (fun (V13 : VV) (A14 : AA) => post V13 A14) V9 A10 62) ∧ (¬ x1 = 13 → post V9 A10)) V A x1
set_option maxHeartbeats 4000000 in
set_option maxRecDepth 100000 in
theorem r9_lines_50 {p : Program} {l : Launch} {e : Env} {s : State} {m : MethodId} {args : Array Value} {below : List Frame} {meth : Method} {c : Code} {g : MG} (S : CallFix p m c cX9_lines 2 s args lw_all RX9) (hr : meth.sig.returnType = none) (hlocks : meth.locks = false) (hK : KM g s) (hI : HI g) {post : VV → AA → Prop}  : ∀ (V : VV) (A : AA) (x1 : Int32), w9_lines_50 post  V A x1 → ∀ (H : Heap) (locs : List Loc), HM g V A H → va_S (HA g) s.heap H locs → ∀ (ls : Array Slot), lv_has ls 2 [(0, .ref (mh g)), (1, .int x1)] → W p l e rm9_lines s m args below meth c H locs 0 0 (MQ below (MQv g post) args s 0 0 (HA g)) (F0 m 50 ls []) := by
  have hx := S.1
  have hb := S.2.1
  have hown := S.2.2.2.1
  have hts := S.2.2.2.2
  intro V A x1 hw H locs hM hS ls hl
  unfold w9_lines_50 at hw
  refine lv_aload_n hx hb dX9_lines_50 rfl (lv_at hl 0 rfl) ?_
  refine lv_iload_n hx hb dX9_lines_51 rfl (lv_at hl 1 rfl) ?_
  refine mo_callv (As := [.int x1]) S hK hM hS (m9_echo l g V A x1 _ hI hw) (cwV 1 hts (lw_V q1065 q1067 qs43 q64 q1068) rfl rfl rfl (by decide +kernel) ⟨Nat.le_of_ble_eq_true rfl, Nat.le_of_ble_eq_true rfl⟩) rfl hl.1 rfl (lv_room (Nat.le_of_ble_eq_true rfl)) dX9_lines_52 ⟨Nat.zero_le _, Nat.zero_le _⟩ (fun V9 A10 H locs hw hM hS => ?_)
  refine lv_iload_n hx hb dX9_lines_55 rfl (lv_at hl 1 rfl) ?_
  refine lv_bipush (v := 13) hx hb dX9_lines_56 (by decide) ?_
  refine lv_icmp_ne (tgt := 67) hx hb dX9_lines_58 (by decide) (fun c12 => ?_) (fun c12 => ?_)
  · have hw := hw.2 c12
    exact mo_vret S hr hlocks hM hS hw dX9_lines_67
  · have hw := hw.1 c12
    refine lv_aload_n hx hb dX9_lines_61 rfl (lv_at hl 0 rfl) ?_
    refine lv_bipush (v := 62) hx hb dX9_lines_62 (by decide) ?_
    refine mo_callv (As := [.int 62]) S hK hM hS (m9_puts l g V9 A10 62 _ hI hw) (cwV 1 hts (lw_V q933 q935 qs17 q64 q936) rfl rfl rfl (by decide +kernel) ⟨Nat.le_of_ble_eq_true rfl, Nat.le_of_ble_eq_true rfl⟩) rfl hl.1 rfl (lv_room (Nat.le_of_ble_eq_true rfl)) dX9_lines_64 ⟨Nat.zero_le _, Nat.zero_le _⟩ (fun V13 A14 H locs hw hM hS => ?_)
    exact mo_vret S hr hlocks hM hS hw dX9_lines_67
def w9_lines_39 (post : VV → AA → Prop)  (V : VV) (A : AA) (x1 : Int32) : Prop :=
  vp_in 0 69 ∧ ((2 ≤ (A 3 (0 : Int32).toNatClampNeg) → w9_lines_50 post V A x1) ∧ (¬ 2 ≤ (A 3 (0 : Int32).toNatClampNeg) → post V A))
set_option maxHeartbeats 4000000 in
set_option maxRecDepth 100000 in
theorem r9_lines_39 {p : Program} {l : Launch} {e : Env} {s : State} {m : MethodId} {args : Array Value} {below : List Frame} {meth : Method} {c : Code} {g : MG} (S : CallFix p m c cX9_lines 2 s args lw_all RX9) (hr : meth.sig.returnType = none) (hlocks : meth.locks = false) (hK : KM g s) (hI : HI g) {post : VV → AA → Prop}  : ∀ (V : VV) (A : AA) (x1 : Int32), w9_lines_39 post  V A x1 → ∀ (H : Heap) (locs : List Loc), HM g V A H → va_S (HA g) s.heap H locs → ∀ (ls : Array Slot), lv_has ls 2 [(0, .ref (mh g)), (1, .int x1)] → W p l e rm9_lines s m args below meth c H locs 0 0 (MQ below (MQv g post) args s 0 0 (HA g)) (F0 m 39 ls []) := by
  have hx := S.1
  have hb := S.2.1
  have hown := S.2.2.2.1
  have hts := S.2.2.2.2
  intro V A x1 hw H locs hM hS ls hl
  unfold w9_lines_39 at hw
  refine lv_aload_n hx hb dX9_lines_39 rfl (lv_at hl 0 rfl) ?_
  refine mo_geta S hK hM 3 (by decide) q782 dX9_lines_40 rfl ?_
  refine lv_iconst (v := 0) hx hb dX9_lines_43 (by decide) ?_
  have hin := hw.1
  have hw := hw.2
  refine mo_ald S hK hM 3 rfl hin dX9_lines_44 ?_
  refine lv_iconst (v := 2) hx hb dX9_lines_45 (by decide) ?_
  refine lv_icmp_ge (tgt := 50) hx hb dX9_lines_46 (by decide) (fun c8 => ?_) (fun c8 => ?_)
  · have hw := hw.1 c8
    exact r9_lines_50 S hr hlocks hK hI  _ _ _ hw _ _ hM hS _ (lv_sub hl [0, 1] rfl)
  · have hw := hw.2 c8
    exact mo_vret S hr hlocks hM hS hw dX9_lines_49
def w9_lines_18 (post : VV → AA → Prop)  (V : VV) (A : AA) (x1 : Int32) : Prop :=
  (x1 = 1 → post V A) ∧ (¬ x1 = 1 → (x1 = 2 → post V A) ∧ (¬ x1 = 2 → (x1 = 8 → w9_lines_39 post V A x1) ∧ (¬ x1 = 8 → (x1 = 4 → w9_lines_39 post V A x1) ∧ (¬ x1 = 4 → w9_lines_50 post V A x1))))
set_option maxHeartbeats 4000000 in
set_option maxRecDepth 100000 in
theorem r9_lines_18 {p : Program} {l : Launch} {e : Env} {s : State} {m : MethodId} {args : Array Value} {below : List Frame} {meth : Method} {c : Code} {g : MG} (S : CallFix p m c cX9_lines 2 s args lw_all RX9) (hr : meth.sig.returnType = none) (hlocks : meth.locks = false) (hK : KM g s) (hI : HI g) {post : VV → AA → Prop}  : ∀ (V : VV) (A : AA) (x1 : Int32), w9_lines_18 post  V A x1 → ∀ (H : Heap) (locs : List Loc), HM g V A H → va_S (HA g) s.heap H locs → ∀ (ls : Array Slot), lv_has ls 2 [(0, .ref (mh g)), (1, .int x1)] → W p l e rm9_lines s m args below meth c H locs 0 0 (MQ below (MQv g post) args s 0 0 (HA g)) (F0 m 18 ls []) := by
  have hx := S.1
  have hb := S.2.1
  have hown := S.2.2.2.1
  have hts := S.2.2.2.2
  intro V A x1 hw H locs hM hS ls hl
  unfold w9_lines_18 at hw
  refine lv_iload_n hx hb dX9_lines_18 rfl (lv_at hl 1 rfl) ?_
  refine lv_iconst (v := 1) hx hb dX9_lines_19 (by decide) ?_
  refine lv_icmp_eq (tgt := 49) hx hb dX9_lines_20 (by decide) (fun c5 => ?_) (fun c5 => ?_)
  · have hw := hw.1 c5
    exact mo_vret S hr hlocks hM hS hw dX9_lines_49
  · have hw := hw.2 c5
    refine lv_iload_n hx hb dX9_lines_23 rfl (lv_at hl 1 rfl) ?_
    refine lv_iconst (v := 2) hx hb dX9_lines_24 (by decide) ?_
    refine lv_icmp_eq (tgt := 49) hx hb dX9_lines_25 (by decide) (fun c6 => ?_) (fun c6 => ?_)
    · have hw := hw.1 c6
      exact mo_vret S hr hlocks hM hS hw dX9_lines_49
    · have hw := hw.2 c6
      refine lv_iload_n hx hb dX9_lines_28 rfl (lv_at hl 1 rfl) ?_
      refine lv_bipush (v := 8) hx hb dX9_lines_29 (by decide) ?_
      refine lv_icmp_eq (tgt := 39) hx hb dX9_lines_31 (by decide) (fun c7 => ?_) (fun c7 => ?_)
      · have hw := hw.1 c7
        exact r9_lines_39 S hr hlocks hK hI  _ _ _ hw _ _ hM hS _ (lv_sub hl [0, 1] rfl)
      · have hw := hw.2 c7
        refine lv_iload_n hx hb dX9_lines_34 rfl (lv_at hl 1 rfl) ?_
        refine lv_iconst (v := 4) hx hb dX9_lines_35 (by decide) ?_
        refine lv_icmp_ne (tgt := 50) hx hb dX9_lines_36 (by decide) (fun c16 => ?_) (fun c16 => ?_)
        · have hw := hw.2 c16
          exact r9_lines_50 S hr hlocks hK hI  _ _ _ hw _ _ hM hS _ (lv_sub hl [0, 1] rfl)
        · have hw := hw.1 c16
          exact r9_lines_39 S hr hlocks hK hI  _ _ _ hw _ _ hM hS _ (lv_sub hl [0, 1] rfl)
def w9_lines (post : VV → AA → Prop) (V : VV) (A : AA) (x1 : Int32) : Prop :=
  w9_isLetter (fun (r3 : Int32) (V1 : VV) (A2 : AA) => (r3 = 0 → w9_lines_18 post V1 A2 x1) ∧ (¬ r3 = 0 → vp_in 0 69 ∧ (((A2 3 (0 : Int32).toNatClampNeg) = 23 → post V1 A2) ∧ (¬ (A2 3 (0 : Int32).toNatClampNeg) = 23 → w9_lines_18 post V1 A2 x1)))) V A x1
set_option maxHeartbeats 4000000 in
set_option maxRecDepth 100000 in
theorem m9_lines (l : Launch) (g : MG) (V : VV) (A : AA) (x1 : Int32) (post : VV → AA → Prop) (hI : HI g) (hw : w9_lines post V A x1) : Met l yX9_lines (ws_ yX9_lines cX9_lines 2 none) rm9_lines (MPc g V A [.ref (mh g), .int x1]) (MQv g post) 0 0 (HA g) := by
  refine Met.ofW (cc := cX9_lines) (maxL := 2) (ret := none) (by decide) rfl ?_
  intro p e s m args below meth c s₁ B hml hv
  obtain ⟨rfl, hK, hM⟩ := hv
  have hx := B.exec
  have hb := B.bytes
  have hr : meth.sig.returnType = none := B.returns
  have hts := atoms_spec (ws := ws_ yX9_lines cX9_lines 2 none) B.pre
  have hts : ∀ w ∈ lw_all, w.before _ s = true := fun w h => hts w (List.mem_cons_of_mem _ h)
  have hown : s.vm.findClass RX9 = some m.cls := findClass_of_methodNamed B.named
  have hlocks : meth.locks = false := B.notSynchronized
  have S : CallFix p m c cX9_lines 2 s _ lw_all RX9 := ⟨hx, hb, hml, hown, hts⟩
  have hS : va_S (HA g) s.heap s.heap [] := va_S.rf
  have hl := lv_entry ([.ref (mh g), .int x1]) (n := 2) (Nat.le_of_ble_eq_true rfl)
  rw [lg_entry_eq]
  generalize (lg_sl ([.ref (mh g), .int x1]) ++ List.replicate (2 - (lg_sl ([.ref (mh g), .int x1])).length) Slot.unset).toArray = ls at hl ⊢
  have hl : lv_has ls 2 [(0, .ref (mh g)), (1, .int x1)] := hl
  unfold w9_lines at hw
  refine lv_iload_n hx hb dX9_lines_0 rfl (lv_at hl 1 rfl) ?_
  refine mo_scalli (As := [.int x1]) S hK hM hS (m9_isLetter l g V A x1 _ hI hw) (va_cwS 1 hts (lw_S q930 q931 q64 q932) rfl rfl rfl (by decide +kernel) ⟨Nat.le_of_ble_eq_true rfl, Nat.le_of_ble_eq_true rfl⟩) rfl hl.1 rfl (lv_room (Nat.le_of_ble_eq_true rfl)) dX9_lines_1 ⟨Nat.zero_le _, Nat.zero_le _⟩ (fun r3 V1 A2 H locs hw hM hS => ?_)
  refine lv_if_eq (tgt := 18) hx hb dX9_lines_4 (by decide) (fun c4 => ?_) (fun c4 => ?_)
  · have hw := hw.1 c4
    exact r9_lines_18 S hr hlocks hK hI  _ _ _ hw _ _ hM hS _ (lv_sub hl [0, 1] rfl)
  · have hw := hw.2 c4
    refine lv_aload_n hx hb dX9_lines_7 rfl (lv_at hl 0 rfl) ?_
    refine mo_geta S hK hM 3 (by decide) q782 dX9_lines_8 rfl ?_
    refine lv_iconst (v := 0) hx hb dX9_lines_11 (by decide) ?_
    have hin := hw.1
    have hw := hw.2
    refine mo_ald S hK hM 3 rfl hin dX9_lines_12 ?_
    refine lv_bipush (v := 23) hx hb dX9_lines_13 (by decide) ?_
    refine lv_icmp_eq (tgt := 49) hx hb dX9_lines_15 (by decide) (fun c17 => ?_) (fun c17 => ?_)
    · have hw := hw.1 c17
      exact mo_vret S hr hlocks hM hS hw dX9_lines_49
    · have hw := hw.2 c17
      exact r9_lines_18 S hr hlocks hK hI  _ _ _ hw _ _ hM hS _ (lv_sub hl [0, 1] rfl)
/-! FarTypewriterModel.pass(I)V -/
abbrev rm9_pass : Room := { frames := 4, cells := 0, slots := 0, locals := 89 }
def b9_pass_58 (post : VV → AA → Prop)  (kb : VV → AA → Int32 → Prop) (V : VV) (A : AA) (x2 : Int32) : Prop :=
  ((V 8) ≤ x2 → w9_newLine (fun (V8 : VV) (A9 : AA) => post (vu V8 8 0) A9) V A ) ∧ (¬ (V 8) ≤ x2 → w9_puts (fun (V11 : VV) (A12 : AA) => kb V11 A12 (x2 + 1)) V A 42)
def w9_pass_58 (post : VV → AA → Prop)  : Nat → VV → AA → Int32 → Prop
  | 0 => fun _ _ _ => False
  | n + 1 => b9_pass_58 post  (w9_pass_58 post  n)
set_option maxHeartbeats 4000000 in
set_option maxRecDepth 100000 in
theorem r9_pass_58 {p : Program} {l : Launch} {e : Env} {s : State} {m : MethodId} {args : Array Value} {below : List Frame} {meth : Method} {c : Code} {g : MG} (S : CallFix p m c cX9_pass 3 s args lw_all RX9) (hr : meth.sig.returnType = none) (hlocks : meth.locks = false) (hK : KM g s) (hI : HI g) {post : VV → AA → Prop}  : ∀ n : Nat, ∀ (V : VV) (A : AA) (x2 : Int32), w9_pass_58 post  n V A x2 → ∀ (H : Heap) (locs : List Loc), HM g V A H → va_S (HA g) s.heap H locs → ∀ (ls : Array Slot), lv_has ls 3 [(0, .ref (mh g)), (2, .int x2)] → W p l e rm9_pass s m args below meth c H locs 0 0 (MQ below (MQv g post) args s 0 0 (HA g)) (F0 m 58 ls []) := by
  have hx := S.1
  have hb := S.2.1
  have hown := S.2.2.2.1
  have hts := S.2.2.2.2
  intro n
  induction n with
  | zero =>
    intro V A x2 hw
    exact hw.elim
  | succ n hkb =>
    intro V A x2 hw H locs hM hS ls hl
    unfold w9_pass_58 b9_pass_58 at hw
    refine lv_iload_n hx hb dX9_pass_58 rfl (lv_at hl 1 rfl) ?_
    refine lv_aload_n hx hb dX9_pass_59 rfl (lv_at hl 0 rfl) ?_
    refine mo_geti S hK hM 8 (by decide) q787 dX9_pass_60 rfl ?_
    refine lv_icmp_ge (tgt := 78) hx hb dX9_pass_63 (by decide) (fun c7 => ?_) (fun c7 => ?_)
    · have hw := hw.1 c7
      refine lv_aload_n hx hb dX9_pass_78 rfl (lv_at hl 0 rfl) ?_
      refine mo_callv (As := []) S hK hM hS (m9_newLine l g V A  _ hI hw) (cwV 0 hts (lw_V q937 q939 qs18 q64 q940) rfl rfl rfl (by decide +kernel) ⟨Nat.le_of_ble_eq_true rfl, Nat.le_of_ble_eq_true rfl⟩) rfl hl.1 rfl (lv_room (Nat.le_of_ble_eq_true rfl)) dX9_pass_79 ⟨Nat.zero_le _, Nat.zero_le _⟩ (fun V8 A9 H locs hw hM hS => ?_)
      refine lv_aload_n hx hb dX9_pass_82 rfl (lv_at hl 0 rfl) ?_
      refine lv_iconst (v := 0) hx hb dX9_pass_83 (by decide) ?_
      refine mo_put S hK hI hM hS 8 (by decide) q787 dX9_pass_84 rfl rfl ⟨rfl, rfl⟩ (fun H locs hM hS => ?_)
      exact mo_vret S hr hlocks hM hS hw dX9_pass_87
    · have hw := hw.2 c7
      refine lv_aload_n hx hb dX9_pass_66 rfl (lv_at hl 0 rfl) ?_
      refine lv_bipush (v := 42) hx hb dX9_pass_67 (by decide) ?_
      refine mo_callv (As := [.int 42]) S hK hM hS (m9_puts l g V A 42 _ hI hw) (cwV 1 hts (lw_V q933 q935 qs17 q64 q936) rfl rfl rfl (by decide +kernel) ⟨Nat.le_of_ble_eq_true rfl, Nat.le_of_ble_eq_true rfl⟩) rfl hl.1 rfl (lv_room (Nat.le_of_ble_eq_true rfl)) dX9_pass_69 ⟨Nat.zero_le _, Nat.zero_le _⟩ (fun V11 A12 H locs hw hM hS => ?_)
      refine lv_iinc (v := x2 + 1) (lv' := [(2, .int (x2 + 1)), (0, .ref (mh g))]) hx hb dX9_pass_72 hl (k := 1) rfl rfl (by decide) rfl (fun ls hl => ?_)
      refine lv_goto (tgt := 58) hx hb dX9_pass_75 (by decide) ?_
      exact hkb _ _ _ hw _ _ hM hS _ (lv_sub hl [1, 0] rfl)
def w9_pass_49 (post : VV → AA → Prop)  (V : VV) (A : AA) (x1 : Int32) : Prop :=
  (x1 = 13 → ∃ n, w9_pass_58 post  n V A 0) ∧ (¬ x1 = 13 → post V A)
set_option maxHeartbeats 4000000 in
set_option maxRecDepth 100000 in
theorem r9_pass_49 {p : Program} {l : Launch} {e : Env} {s : State} {m : MethodId} {args : Array Value} {below : List Frame} {meth : Method} {c : Code} {g : MG} (S : CallFix p m c cX9_pass 3 s args lw_all RX9) (hr : meth.sig.returnType = none) (hlocks : meth.locks = false) (hK : KM g s) (hI : HI g) {post : VV → AA → Prop}  : ∀ (V : VV) (A : AA) (x1 : Int32), w9_pass_49 post  V A x1 → ∀ (H : Heap) (locs : List Loc), HM g V A H → va_S (HA g) s.heap H locs → ∀ (ls : Array Slot), lv_has ls 3 [(0, .ref (mh g)), (1, .int x1)] → W p l e rm9_pass s m args below meth c H locs 0 0 (MQ below (MQv g post) args s 0 0 (HA g)) (F0 m 49 ls []) := by
  have hx := S.1
  have hb := S.2.1
  have hown := S.2.2.2.1
  have hts := S.2.2.2.2
  intro V A x1 hw H locs hM hS ls hl
  unfold w9_pass_49 at hw
  refine lv_iload_n hx hb dX9_pass_49 rfl (lv_at hl 1 rfl) ?_
  refine lv_bipush (v := 13) hx hb dX9_pass_50 (by decide) ?_
  refine lv_icmp_eq (tgt := 56) hx hb dX9_pass_52 (by decide) (fun c6 => ?_) (fun c6 => ?_)
  · have hw := hw.1 c6
    refine lv_iconst (v := 0) hx hb dX9_pass_56 (by decide) ?_
    refine lv_istore_n (lv' := [(2, .int 0), (0, .ref (mh g)), (1, .int x1)]) hx hb dX9_pass_57 rfl hl (by decide) rfl (fun ls hl => ?_)
    obtain ⟨n, hw⟩ := hw
    refine r9_pass_58 S hr hlocks hK hI  n _ _ _ hw _ _ hM hS _ (lv_sub hl [1, 0] rfl)
  · have hw := hw.2 c6
    exact mo_vret S hr hlocks hM hS hw dX9_pass_55
def w9_pass_26 (post : VV → AA → Prop)  (V : VV) (A : AA) (x1 : Int32) : Prop :=
  (x1 = 8 → ((V 8) ≤ 0 → w9_pass_49 post V A x1) ∧ (¬ (V 8) ≤ 0 → w9_pass_49 post (vu V 8 ((V 8) - 1)) A x1)) ∧ (¬ x1 = 8 → w9_pass_49 post V A x1)
set_option maxHeartbeats 4000000 in
set_option maxRecDepth 100000 in
theorem r9_pass_26 {p : Program} {l : Launch} {e : Env} {s : State} {m : MethodId} {args : Array Value} {below : List Frame} {meth : Method} {c : Code} {g : MG} (S : CallFix p m c cX9_pass 3 s args lw_all RX9) (hr : meth.sig.returnType = none) (hlocks : meth.locks = false) (hK : KM g s) (hI : HI g) {post : VV → AA → Prop}  : ∀ (V : VV) (A : AA) (x1 : Int32), w9_pass_26 post  V A x1 → ∀ (H : Heap) (locs : List Loc), HM g V A H → va_S (HA g) s.heap H locs → ∀ (ls : Array Slot), lv_has ls 3 [(0, .ref (mh g)), (1, .int x1)] → W p l e rm9_pass s m args below meth c H locs 0 0 (MQ below (MQv g post) args s 0 0 (HA g)) (F0 m 26 ls []) := by
  have hx := S.1
  have hb := S.2.1
  have hown := S.2.2.2.1
  have hts := S.2.2.2.2
  intro V A x1 hw H locs hM hS ls hl
  unfold w9_pass_26 at hw
  refine lv_iload_n hx hb dX9_pass_26 rfl (lv_at hl 1 rfl) ?_
  refine lv_bipush (v := 8) hx hb dX9_pass_27 (by decide) ?_
  refine lv_icmp_ne (tgt := 49) hx hb dX9_pass_29 (by decide) (fun c5 => ?_) (fun c5 => ?_)
  · have hw := hw.2 c5
    exact r9_pass_49 S hr hlocks hK hI  _ _ _ hw _ _ hM hS _ (lv_sub hl [0, 1] rfl)
  · have hw := hw.1 c5
    refine lv_aload_n hx hb dX9_pass_32 rfl (lv_at hl 0 rfl) ?_
    refine mo_geti S hK hM 8 (by decide) q787 dX9_pass_33 rfl ?_
    refine lv_if_le (tgt := 49) hx hb dX9_pass_36 (by decide) (fun c14 => ?_) (fun c14 => ?_)
    · have hw := hw.1 c14
      exact r9_pass_49 S hr hlocks hK hI  _ _ _ hw _ _ hM hS _ (lv_sub hl [0, 1] rfl)
    · have hw := hw.2 c14
      refine lv_aload_n hx hb dX9_pass_39 rfl (lv_at hl 0 rfl) ?_
      refine lv_dup hx hb dX9_pass_40 rfl ?_
      refine mo_geti S hK hM 8 (by decide) q787 dX9_pass_41 rfl ?_
      refine lv_iconst (v := 1) hx hb dX9_pass_44 (by decide) ?_
      refine lv_isub hx hb dX9_pass_45 ?_
      refine mo_put S hK hI hM hS 8 (by decide) q787 dX9_pass_46 rfl rfl ⟨rfl, rfl⟩ (fun H locs hM hS => ?_)
      exact r9_pass_49 S hr hlocks hK hI  _ _ _ hw _ _ hM hS _ (lv_sub hl [0, 1] rfl)
def w9_pass (post : VV → AA → Prop) (V : VV) (A : AA) (x1 : Int32) : Prop :=
  w9_isLetter (fun (r3 : Int32) (V1 : VV) (A2 : AA) => (r3 = 0 → w9_pass_26 post V1 A2 x1) ∧ (¬ r3 = 0 → (20 ≤ (V1 8) → w9_pass_26 post V1 A2 x1) ∧ (¬ 20 ≤ (V1 8) → w9_pass_26 post (vu V1 8 ((V1 8) + 1)) A2 x1))) V A x1
set_option maxHeartbeats 4000000 in
set_option maxRecDepth 100000 in
theorem m9_pass (l : Launch) (g : MG) (V : VV) (A : AA) (x1 : Int32) (post : VV → AA → Prop) (hI : HI g) (hw : w9_pass post V A x1) : Met l yX9_pass (ws_ yX9_pass cX9_pass 3 none) rm9_pass (MPc g V A [.ref (mh g), .int x1]) (MQv g post) 0 0 (HA g) := by
  refine Met.ofW (cc := cX9_pass) (maxL := 3) (ret := none) (by decide) rfl ?_
  intro p e s m args below meth c s₁ B hml hv
  obtain ⟨rfl, hK, hM⟩ := hv
  have hx := B.exec
  have hb := B.bytes
  have hr : meth.sig.returnType = none := B.returns
  have hts := atoms_spec (ws := ws_ yX9_pass cX9_pass 3 none) B.pre
  have hts : ∀ w ∈ lw_all, w.before _ s = true := fun w h => hts w (List.mem_cons_of_mem _ h)
  have hown : s.vm.findClass RX9 = some m.cls := findClass_of_methodNamed B.named
  have hlocks : meth.locks = false := B.notSynchronized
  have S : CallFix p m c cX9_pass 3 s _ lw_all RX9 := ⟨hx, hb, hml, hown, hts⟩
  have hS : va_S (HA g) s.heap s.heap [] := va_S.rf
  have hl := lv_entry ([.ref (mh g), .int x1]) (n := 3) (Nat.le_of_ble_eq_true rfl)
  rw [lg_entry_eq]
  generalize (lg_sl ([.ref (mh g), .int x1]) ++ List.replicate (3 - (lg_sl ([.ref (mh g), .int x1])).length) Slot.unset).toArray = ls at hl ⊢
  have hl : lv_has ls 3 [(0, .ref (mh g)), (1, .int x1)] := hl
  unfold w9_pass at hw
  refine lv_iload_n hx hb dX9_pass_0 rfl (lv_at hl 1 rfl) ?_
  refine mo_scalli (As := [.int x1]) S hK hM hS (m9_isLetter l g V A x1 _ hI hw) (va_cwS 1 hts (lw_S q930 q931 q64 q932) rfl rfl rfl (by decide +kernel) ⟨Nat.le_of_ble_eq_true rfl, Nat.le_of_ble_eq_true rfl⟩) rfl hl.1 rfl (lv_room (Nat.le_of_ble_eq_true rfl)) dX9_pass_1 ⟨Nat.zero_le _, Nat.zero_le _⟩ (fun r3 V1 A2 H locs hw hM hS => ?_)
  refine lv_if_eq (tgt := 26) hx hb dX9_pass_4 (by decide) (fun c4 => ?_) (fun c4 => ?_)
  · have hw := hw.1 c4
    exact r9_pass_26 S hr hlocks hK hI  _ _ _ hw _ _ hM hS _ (lv_sub hl [0, 1] rfl)
  · have hw := hw.2 c4
    refine lv_aload_n hx hb dX9_pass_7 rfl (lv_at hl 0 rfl) ?_
    refine mo_geti S hK hM 8 (by decide) q787 dX9_pass_8 rfl ?_
    refine lv_bipush (v := 20) hx hb dX9_pass_11 (by decide) ?_
    refine lv_icmp_ge (tgt := 26) hx hb dX9_pass_13 (by decide) (fun c15 => ?_) (fun c15 => ?_)
    · have hw := hw.1 c15
      exact r9_pass_26 S hr hlocks hK hI  _ _ _ hw _ _ hM hS _ (lv_sub hl [0, 1] rfl)
    · have hw := hw.2 c15
      refine lv_aload_n hx hb dX9_pass_16 rfl (lv_at hl 0 rfl) ?_
      refine lv_dup hx hb dX9_pass_17 rfl ?_
      refine mo_geti S hK hM 8 (by decide) q787 dX9_pass_18 rfl ?_
      refine lv_iconst (v := 1) hx hb dX9_pass_21 (by decide) ?_
      refine lv_iadd hx hb dX9_pass_22 ?_
      refine mo_put S hK hI hM hS 8 (by decide) q787 dX9_pass_23 rfl rfl ⟨rfl, rfl⟩ (fun H locs hM hS => ?_)
      exact r9_pass_26 S hr hlocks hK hI  _ _ _ hw _ _ hM hS _ (lv_sub hl [0, 1] rfl)
/-! FarTypewriterModel.pages(I)V -/
abbrev rm9_pages : Room := { frames := 2, cells := 0, slots := 0, locals := 47 }
def b9_pages_18 (post : VV → AA → Prop)  (kb : VV → AA → Int32 → Int32 → Prop) (V : VV) (A : AA) (x1 x2 : Int32) : Prop :=
  (192 ≤ x2 → vp_in 0 69 ∧ (vp_in 0 69 ∧ post V (au (au A 2 (0 : Int32).toNatClampNeg 7) 3 (0 : Int32).toNatClampNeg 0))) ∧ (¬ 192 ≤ x2 → vp_in x2 13248 ∧ (vp_in x2 13248 ∧ kb V (au (au A 0 x2.toNatClampNeg x1) 1 x2.toNatClampNeg (V 6)) x1 (x2 + 1)))
def w9_pages_18 (post : VV → AA → Prop)  : Nat → VV → AA → Int32 → Int32 → Prop
  | 0 => fun _ _ _ _ => False
  | n + 1 => b9_pages_18 post  (w9_pages_18 post  n)
set_option maxHeartbeats 4000000 in
set_option maxRecDepth 100000 in
theorem r9_pages_18 {p : Program} {l : Launch} {e : Env} {s : State} {m : MethodId} {args : Array Value} {below : List Frame} {meth : Method} {c : Code} {g : MG} (S : CallFix p m c cX9_pages 3 s args lw_all RX9) (hr : meth.sig.returnType = none) (hlocks : meth.locks = false) (hK : KM g s) (hI : HI g) {post : VV → AA → Prop}  : ∀ n : Nat, ∀ (V : VV) (A : AA) (x1 x2 : Int32), w9_pages_18 post  n V A x1 x2 → ∀ (H : Heap) (locs : List Loc), HM g V A H → va_S (HA g) s.heap H locs → ∀ (ls : Array Slot), lv_has ls 3 [(0, .ref (mh g)), (1, .int x1), (2, .int x2)] → W p l e rm9_pages s m args below meth c H locs 0 0 (MQ below (MQv g post) args s 0 0 (HA g)) (F0 m 18 ls []) := by
  have hx := S.1
  have hb := S.2.1
  have hown := S.2.2.2.1
  have hts := S.2.2.2.2
  intro n
  induction n with
  | zero =>
    intro V A x1 x2 hw
    exact hw.elim
  | succ n hkb =>
    intro V A x1 x2 hw H locs hM hS ls hl
    unfold w9_pages_18 b9_pages_18 at hw
    refine lv_iload_n hx hb dX9_pages_18 rfl (lv_at hl 2 rfl) ?_
    refine lv_sipush (v := 192) hx hb dX9_pages_19 (by decide) ?_
    refine lv_icmp_ge (tgt := 48) hx hb dX9_pages_22 (by decide) (fun c8 => ?_) (fun c8 => ?_)
    · have hw := hw.1 c8
      refine lv_aload_n hx hb dX9_pages_48 rfl (lv_at hl 0 rfl) ?_
      refine mo_geta S hK hM 2 (by decide) q781 dX9_pages_49 rfl ?_
      refine lv_iconst (v := 0) hx hb dX9_pages_52 (by decide) ?_
      refine lv_bipush (v := 7) hx hb dX9_pages_53 (by decide) ?_
      have hin := hw.1
      have hw := hw.2
      refine mo_ast S hK hI hM hS 2 rfl hin dX9_pages_55 (fun H locs hM hS => ?_)
      refine lv_aload_n hx hb dX9_pages_56 rfl (lv_at hl 0 rfl) ?_
      refine mo_geta S hK hM 3 (by decide) q782 dX9_pages_57 rfl ?_
      refine lv_iconst (v := 0) hx hb dX9_pages_60 (by decide) ?_
      refine lv_iconst (v := 0) hx hb dX9_pages_61 (by decide) ?_
      have hin := hw.1
      have hw := hw.2
      refine mo_ast S hK hI hM hS 3 rfl hin dX9_pages_62 (fun H locs hM hS => ?_)
      exact mo_vret S hr hlocks hM hS hw dX9_pages_63
    · have hw := hw.2 c8
      refine lv_aload_n hx hb dX9_pages_25 rfl (lv_at hl 0 rfl) ?_
      refine mo_geta S hK hM 0 (by decide) q779 dX9_pages_26 rfl ?_
      refine lv_iload_n hx hb dX9_pages_29 rfl (lv_at hl 2 rfl) ?_
      refine lv_iload_n hx hb dX9_pages_30 rfl (lv_at hl 1 rfl) ?_
      have hin := hw.1
      have hw := hw.2
      refine mo_ast S hK hI hM hS 0 rfl hin dX9_pages_31 (fun H locs hM hS => ?_)
      refine lv_aload_n hx hb dX9_pages_32 rfl (lv_at hl 0 rfl) ?_
      refine mo_geta S hK hM 1 (by decide) q780 dX9_pages_33 rfl ?_
      refine lv_iload_n hx hb dX9_pages_36 rfl (lv_at hl 2 rfl) ?_
      refine lv_aload_n hx hb dX9_pages_37 rfl (lv_at hl 0 rfl) ?_
      refine mo_geti S hK hM 6 (by decide) q785 dX9_pages_38 rfl ?_
      have hin := hw.1
      have hw := hw.2
      refine mo_ast S hK hI hM hS 1 rfl hin dX9_pages_41 (fun H locs hM hS => ?_)
      refine lv_iinc (v := x2 + 1) (lv' := [(2, .int (x2 + 1)), (0, .ref (mh g)), (1, .int x1)]) hx hb dX9_pages_42 hl (k := 2) rfl rfl (by decide) rfl (fun ls hl => ?_)
      refine lv_goto (tgt := 18) hx hb dX9_pages_45 (by decide) ?_
      exact hkb _ _ _ _ hw _ _ hM hS _ (lv_sub hl [1, 2, 0] rfl)
def w9_pages (post : VV → AA → Prop) (V : VV) (A : AA) (x1 : Int32) : Prop :=
  w9_isLetter (fun (r3 : Int32) (V1 : VV) (A2 : AA) => (r3 = 0 → post V1 A2) ∧ (¬ r3 = 0 → w9_scrolls (fun (V5 : VV) (A6 : AA) => ∃ n, w9_pages_18 post  n V5 A6 x1 168) V1 A2 0 1)) V A x1
set_option maxHeartbeats 4000000 in
set_option maxRecDepth 100000 in
theorem m9_pages (l : Launch) (g : MG) (V : VV) (A : AA) (x1 : Int32) (post : VV → AA → Prop) (hI : HI g) (hw : w9_pages post V A x1) : Met l yX9_pages (ws_ yX9_pages cX9_pages 3 none) rm9_pages (MPc g V A [.ref (mh g), .int x1]) (MQv g post) 0 0 (HA g) := by
  refine Met.ofW (cc := cX9_pages) (maxL := 3) (ret := none) (by decide) rfl ?_
  intro p e s m args below meth c s₁ B hml hv
  obtain ⟨rfl, hK, hM⟩ := hv
  have hx := B.exec
  have hb := B.bytes
  have hr : meth.sig.returnType = none := B.returns
  have hts := atoms_spec (ws := ws_ yX9_pages cX9_pages 3 none) B.pre
  have hts : ∀ w ∈ lw_all, w.before _ s = true := fun w h => hts w (List.mem_cons_of_mem _ h)
  have hown : s.vm.findClass RX9 = some m.cls := findClass_of_methodNamed B.named
  have hlocks : meth.locks = false := B.notSynchronized
  have S : CallFix p m c cX9_pages 3 s _ lw_all RX9 := ⟨hx, hb, hml, hown, hts⟩
  have hS : va_S (HA g) s.heap s.heap [] := va_S.rf
  have hl := lv_entry ([.ref (mh g), .int x1]) (n := 3) (Nat.le_of_ble_eq_true rfl)
  rw [lg_entry_eq]
  generalize (lg_sl ([.ref (mh g), .int x1]) ++ List.replicate (3 - (lg_sl ([.ref (mh g), .int x1])).length) Slot.unset).toArray = ls at hl ⊢
  have hl : lv_has ls 3 [(0, .ref (mh g)), (1, .int x1)] := hl
  unfold w9_pages at hw
  refine lv_iload_n hx hb dX9_pages_0 rfl (lv_at hl 1 rfl) ?_
  refine mo_scalli (As := [.int x1]) S hK hM hS (m9_isLetter l g V A x1 _ hI hw) (va_cwS 1 hts (lw_S q930 q931 q64 q932) rfl rfl rfl (by decide +kernel) ⟨Nat.le_of_ble_eq_true rfl, Nat.le_of_ble_eq_true rfl⟩) rfl hl.1 rfl (lv_room (Nat.le_of_ble_eq_true rfl)) dX9_pages_1 ⟨Nat.zero_le _, Nat.zero_le _⟩ (fun r3 V1 A2 H locs hw hM hS => ?_)
  refine lv_if_ne (tgt := 8) hx hb dX9_pages_4 (by decide) (fun c4 => ?_) (fun c4 => ?_)
  · have hw := hw.2 c4
    refine lv_aload_n hx hb dX9_pages_8 rfl (lv_at hl 0 rfl) ?_
    refine lv_iconst (v := 0) hx hb dX9_pages_9 (by decide) ?_
    refine lv_iconst (v := 1) hx hb dX9_pages_10 (by decide) ?_
    refine mo_callv (As := [.int 0, .int 1]) S hK hM hS (m9_scrolls l g V1 A2 0 1 _ hI hw) (cwV 2 hts (lw_V q941 q943 qs19 q64 q944) rfl rfl rfl (by decide +kernel) ⟨Nat.le_of_ble_eq_true rfl, Nat.le_of_ble_eq_true rfl⟩) rfl hl.1 rfl (lv_room (Nat.le_of_ble_eq_true rfl)) dX9_pages_11 ⟨Nat.zero_le _, Nat.zero_le _⟩ (fun V5 A6 H locs hw hM hS => ?_)
    refine lv_sipush (v := 168) hx hb dX9_pages_14 (by decide) ?_
    refine lv_istore_n (lv' := [(2, .int 168), (0, .ref (mh g)), (1, .int x1)]) hx hb dX9_pages_17 rfl hl (by decide) rfl (fun ls hl => ?_)
    obtain ⟨n, hw⟩ := hw
    refine r9_pages_18 S hr hlocks hK hI  n _ _ _ _ hw _ _ hM hS _ (lv_sub hl [1, 2, 0] rfl)
  · have hw := hw.1 c4
    exact mo_vret S hr hlocks hM hS hw dX9_pages_7
/-! FarTypewriterModel.takesKey(I)V -/
abbrev rm9_takesKey : Room := { frames := 6, cells := 0, slots := 0, locals := 131 }
def w9_takesKey (post : VV → AA → Prop) (V : VV) (A : AA) (x1 : Int32) : Prop :=
  ((V 7) = 0 → w9_echo (fun (V13 : VV) (A14 : AA) => post V13 A14) V A x1) ∧ (¬ (V 7) = 0 → ((V 7) = 1 → w9_lines (fun (V10 : VV) (A11 : AA) => post V10 A11) V A x1) ∧ (¬ (V 7) = 1 → ((V 7) = 2 → w9_pass (fun (V7 : VV) (A8 : AA) => post V7 A8) V A x1) ∧ (¬ (V 7) = 2 → w9_pages (fun (V4 : VV) (A5 : AA) => post V4 A5) V A x1)))
set_option maxHeartbeats 4000000 in
set_option maxRecDepth 100000 in
theorem m9_takesKey (l : Launch) (g : MG) (V : VV) (A : AA) (x1 : Int32) (post : VV → AA → Prop) (hI : HI g) (hw : w9_takesKey post V A x1) : Met l yX9_takesKey (ws_ yX9_takesKey cX9_takesKey 2 none) rm9_takesKey (MPc g V A [.ref (mh g), .int x1]) (MQv g post) 0 0 (HA g) := by
  refine Met.ofW (cc := cX9_takesKey) (maxL := 2) (ret := none) (by decide) rfl ?_
  intro p e s m args below meth c s₁ B hml hv
  obtain ⟨rfl, hK, hM⟩ := hv
  have hx := B.exec
  have hb := B.bytes
  have hr : meth.sig.returnType = none := B.returns
  have hts := atoms_spec (ws := ws_ yX9_takesKey cX9_takesKey 2 none) B.pre
  have hts : ∀ w ∈ lw_all, w.before _ s = true := fun w h => hts w (List.mem_cons_of_mem _ h)
  have hown : s.vm.findClass RX9 = some m.cls := findClass_of_methodNamed B.named
  have hlocks : meth.locks = false := B.notSynchronized
  have S : CallFix p m c cX9_takesKey 2 s _ lw_all RX9 := ⟨hx, hb, hml, hown, hts⟩
  have hS : va_S (HA g) s.heap s.heap [] := va_S.rf
  have hl := lv_entry ([.ref (mh g), .int x1]) (n := 2) (Nat.le_of_ble_eq_true rfl)
  rw [lg_entry_eq]
  generalize (lg_sl ([.ref (mh g), .int x1]) ++ List.replicate (2 - (lg_sl ([.ref (mh g), .int x1])).length) Slot.unset).toArray = ls at hl ⊢
  have hl : lv_has ls 2 [(0, .ref (mh g)), (1, .int x1)] := hl
  unfold w9_takesKey at hw
  refine lv_aload_n hx hb dX9_takesKey_0 rfl (lv_at hl 0 rfl) ?_
  refine mo_geti S hK hM 7 (by decide) q786 dX9_takesKey_1 rfl ?_
  refine lv_if_ne (tgt := 15) hx hb dX9_takesKey_4 (by decide) (fun c1 => ?_) (fun c1 => ?_)
  · have hw := hw.2 c1
    refine lv_aload_n hx hb dX9_takesKey_15 rfl (lv_at hl 0 rfl) ?_
    refine mo_geti S hK hM 7 (by decide) q786 dX9_takesKey_16 rfl ?_
    refine lv_iconst (v := 1) hx hb dX9_takesKey_19 (by decide) ?_
    refine lv_icmp_ne (tgt := 31) hx hb dX9_takesKey_20 (by decide) (fun c2 => ?_) (fun c2 => ?_)
    · have hw := hw.2 c2
      refine lv_aload_n hx hb dX9_takesKey_31 rfl (lv_at hl 0 rfl) ?_
      refine mo_geti S hK hM 7 (by decide) q786 dX9_takesKey_32 rfl ?_
      refine lv_iconst (v := 2) hx hb dX9_takesKey_35 (by decide) ?_
      refine lv_icmp_ne (tgt := 47) hx hb dX9_takesKey_36 (by decide) (fun c3 => ?_) (fun c3 => ?_)
      · have hw := hw.2 c3
        refine lv_aload_n hx hb dX9_takesKey_47 rfl (lv_at hl 0 rfl) ?_
        refine lv_iload_n hx hb dX9_takesKey_48 rfl (lv_at hl 1 rfl) ?_
        refine mo_callv (As := [.int x1]) S hK hM hS (m9_pages l g V A x1 _ hI hw) (cwV 1 hts (lw_V q1077 q1079 qs46 q64 q1080) rfl rfl rfl (by decide +kernel) ⟨Nat.le_of_ble_eq_true rfl, Nat.le_of_ble_eq_true rfl⟩) rfl hl.1 rfl (lv_room (Nat.le_of_ble_eq_true rfl)) dX9_takesKey_49 ⟨Nat.zero_le _, Nat.zero_le _⟩ (fun V4 A5 H locs hw hM hS => ?_)
        exact mo_vret S hr hlocks hM hS hw dX9_takesKey_52
      · have hw := hw.1 c3
        refine lv_aload_n hx hb dX9_takesKey_39 rfl (lv_at hl 0 rfl) ?_
        refine lv_iload_n hx hb dX9_takesKey_40 rfl (lv_at hl 1 rfl) ?_
        refine mo_callv (As := [.int x1]) S hK hM hS (m9_pass l g V A x1 _ hI hw) (cwV 1 hts (lw_V q1073 q1075 qs45 q64 q1076) rfl rfl rfl (by decide +kernel) ⟨Nat.le_of_ble_eq_true rfl, Nat.le_of_ble_eq_true rfl⟩) rfl hl.1 rfl (lv_room (Nat.le_of_ble_eq_true rfl)) dX9_takesKey_41 ⟨Nat.zero_le _, Nat.zero_le _⟩ (fun V7 A8 H locs hw hM hS => ?_)
        refine lv_goto (tgt := 52) hx hb dX9_takesKey_44 (by decide) ?_
        exact mo_vret S hr hlocks hM hS hw dX9_takesKey_52
    · have hw := hw.1 c2
      refine lv_aload_n hx hb dX9_takesKey_23 rfl (lv_at hl 0 rfl) ?_
      refine lv_iload_n hx hb dX9_takesKey_24 rfl (lv_at hl 1 rfl) ?_
      refine mo_callv (As := [.int x1]) S hK hM hS (m9_lines l g V A x1 _ hI hw) (cwV 1 hts (lw_V q1069 q1071 qs44 q64 q1072) rfl rfl rfl (by decide +kernel) ⟨Nat.le_of_ble_eq_true rfl, Nat.le_of_ble_eq_true rfl⟩) rfl hl.1 rfl (lv_room (Nat.le_of_ble_eq_true rfl)) dX9_takesKey_25 ⟨Nat.zero_le _, Nat.zero_le _⟩ (fun V10 A11 H locs hw hM hS => ?_)
      refine lv_goto (tgt := 52) hx hb dX9_takesKey_28 (by decide) ?_
      exact mo_vret S hr hlocks hM hS hw dX9_takesKey_52
  · have hw := hw.1 c1
    refine lv_aload_n hx hb dX9_takesKey_7 rfl (lv_at hl 0 rfl) ?_
    refine lv_iload_n hx hb dX9_takesKey_8 rfl (lv_at hl 1 rfl) ?_
    refine mo_callv (As := [.int x1]) S hK hM hS (m9_echo l g V A x1 _ hI hw) (cwV 1 hts (lw_V q1065 q1067 qs43 q64 q1068) rfl rfl rfl (by decide +kernel) ⟨Nat.le_of_ble_eq_true rfl, Nat.le_of_ble_eq_true rfl⟩) rfl hl.1 rfl (lv_room (Nat.le_of_ble_eq_true rfl)) dX9_takesKey_9 ⟨Nat.zero_le _, Nat.zero_le _⟩ (fun V13 A14 H locs hw hM hS => ?_)
    refine lv_goto (tgt := 52) hx hb dX9_takesKey_12 (by decide) ?_
    exact mo_vret S hr hlocks hM hS hw dX9_takesKey_52
