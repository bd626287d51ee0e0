/-! FarTypewriterModel.areLike(II)Z -/
abbrev rm9_areLike : Room := { frames := 0, cells := 0, slots := 0, locals := 0 }
def w9_areLike_85 (post : Int32 → VV → AA → Prop) (kb : VV → AA → Int32 → Int32 → Int32 → Prop) (V : VV) (A : AA) (x3 x5 t0 : Int32) : Prop :=
  kb V A x3 t0 (x5 + 1)
set_option maxHeartbeats 4000000 in
set_option maxRecDepth 100000 in
theorem r9_areLike_85 {p : Program} {l : Launch} {e : Env} {s : State} {m : MethodId} {args : Array Value} {below : List Frame} {meth : Method} {c : Code} {g : MG} (S : CallFix p m c cX9_areLike 6 s args lw_all RX9) (hr : meth.sig.returnType = (some .boolean)) (hlocks : meth.locks = false) (hK : KM g s) (hI : HI g) {post : Int32 → VV → AA → Prop} {kb : VV → AA → Int32 → Int32 → Int32 → Prop} (hkb : ∀ (V : VV) (A : AA) (x3 x4 x5 : Int32), kb V A x3 x4 x5 → ∀ (H : Heap) (locs : List Loc), HM g V A H → va_S (HA g) s.heap H locs → ∀ (ls : Array Slot), lv_has ls 6 [(0, .ref (mh g)), (3, .int x3), (4, .int x4), (5, .int x5)] → W p l e rm9_areLike s m args below meth c H locs 0 0 (MQ below (MQi g post) args s 0 0 (HA g)) (F0 m 20 ls [])) : ∀ (V : VV) (A : AA) (x3 x5 t0 : Int32), w9_areLike_85 post kb V A x3 x5 t0 → ∀ (H : Heap) (locs : List Loc), HM g V A H → va_S (HA g) s.heap H locs → ∀ (ls : Array Slot), lv_has ls 6 [(0, .ref (mh g)), (3, .int x3), (5, .int x5)] → W p l e rm9_areLike s m args below meth c H locs 0 0 (MQ below (MQi g post) args s 0 0 (HA g)) (F0 m 85 ls [.int t0]) := by
  have hx := S.1
  have hb := S.2.1
  have hown := S.2.2.2.1
  have hts := S.2.2.2.2
  intro V A x3 x5 t0 hw H locs hM hS ls hl
  unfold w9_areLike_85 at hw
  refine lv_istore (lv' := [(4, .int t0), (0, .ref (mh g)), (3, .int x3), (5, .int x5)]) hx hb dX9_areLike_85 hl (by decide) rfl (fun ls hl => ?_)
  refine lv_iinc (v := x5 + 1) (lv' := [(5, .int (x5 + 1)), (4, .int t0), (0, .ref (mh g)), (3, .int x3)]) hx hb dX9_areLike_87 hl (k := 3) rfl rfl (by decide) rfl (fun ls hl => ?_)
  refine lv_goto (tgt := 20) hx hb dX9_areLike_90 (by decide) ?_
  exact hkb _ _ _ _ _ hw _ _ hM hS _ (lv_sub hl [2, 3, 1, 0] rfl)
def w9_areLike_84 (post : Int32 → VV → AA → Prop) (kb : VV → AA → Int32 → Int32 → Int32 → Prop) (V : VV) (A : AA) (x3 x5 : Int32) : Prop :=
  w9_areLike_85 post kb V A x3 x5 0
set_option maxHeartbeats 4000000 in
set_option maxRecDepth 100000 in
theorem r9_areLike_84 {p : Program} {l : Launch} {e : Env} {s : State} {m : MethodId} {args : Array Value} {below : List Frame} {meth : Method} {c : Code} {g : MG} (S : CallFix p m c cX9_areLike 6 s args lw_all RX9) (hr : meth.sig.returnType = (some .boolean)) (hlocks : meth.locks = false) (hK : KM g s) (hI : HI g) {post : Int32 → VV → AA → Prop} {kb : VV → AA → Int32 → Int32 → Int32 → Prop} (hkb : ∀ (V : VV) (A : AA) (x3 x4 x5 : Int32), kb V A x3 x4 x5 → ∀ (H : Heap) (locs : List Loc), HM g V A H → va_S (HA g) s.heap H locs → ∀ (ls : Array Slot), lv_has ls 6 [(0, .ref (mh g)), (3, .int x3), (4, .int x4), (5, .int x5)] → W p l e rm9_areLike s m args below meth c H locs 0 0 (MQ below (MQi g post) args s 0 0 (HA g)) (F0 m 20 ls [])) : ∀ (V : VV) (A : AA) (x3 x5 : Int32), w9_areLike_84 post kb V A x3 x5 → ∀ (H : Heap) (locs : List Loc), HM g V A H → va_S (HA g) s.heap H locs → ∀ (ls : Array Slot), lv_has ls 6 [(0, .ref (mh g)), (3, .int x3), (5, .int x5)] → W p l e rm9_areLike s m args below meth c H locs 0 0 (MQ below (MQi g post) args s 0 0 (HA g)) (F0 m 84 ls []) := by
  have hx := S.1
  have hb := S.2.1
  have hown := S.2.2.2.1
  have hts := S.2.2.2.2
  intro V A x3 x5 hw H locs hM hS ls hl
  unfold w9_areLike_84 at hw
  refine lv_iconst (v := 0) hx hb dX9_areLike_84 (by decide) ?_
  exact r9_areLike_85 S hr hlocks hK hI hkb _ _ _ _ _ hw _ _ hM hS _ (lv_sub hl [0, 1, 2] rfl)
def b9_areLike_20 (post : Int32 → VV → AA → Prop)  (kb : VV → AA → Int32 → Int32 → Int32 → Prop) (V : VV) (A : AA) (x3 x4 x5 : Int32) : Prop :=
  ((V 36) < x5 → (x4 = 0 ∨ x4 = 1) ∧ post x4 V A) ∧ (¬ (V 36) < x5 → (x4 = 0 → w9_areLike_84 post kb V A x3 x5) ∧ (¬ x4 = 0 → vp_in (x3 + x5) 13248 ∧ (vp_in (x3 + (V 35)) 13248 ∧ (((A 0 (x3 + x5).toNatClampNeg) = (A 0 (x3 + (V 35)).toNatClampNeg) → vp_in (x3 + x5) 13248 ∧ (vp_in (x3 + (V 35)) 13248 ∧ (((A 1 (x3 + x5).toNatClampNeg) = (A 1 (x3 + (V 35)).toNatClampNeg) → w9_areLike_85 post kb V A x3 x5 1) ∧ (¬ (A 1 (x3 + x5).toNatClampNeg) = (A 1 (x3 + (V 35)).toNatClampNeg) → w9_areLike_84 post kb V A x3 x5)))) ∧ (¬ (A 0 (x3 + x5).toNatClampNeg) = (A 0 (x3 + (V 35)).toNatClampNeg) → w9_areLike_84 post kb V A x3 x5)))))
def w9_areLike_20 (post : Int32 → VV → AA → Prop)  : Nat → VV → AA → Int32 → Int32 → Int32 → Prop
  | 0 => fun _ _ _ _ _ => False
  | n + 1 => b9_areLike_20 post  (w9_areLike_20 post  n)
set_option maxHeartbeats 4000000 in
set_option maxRecDepth 100000 in
theorem r9_areLike_20 {p : Program} {l : Launch} {e : Env} {s : State} {m : MethodId} {args : Array Value} {below : List Frame} {meth : Method} {c : Code} {g : MG} (S : CallFix p m c cX9_areLike 6 s args lw_all RX9) (hr : meth.sig.returnType = (some .boolean)) (hlocks : meth.locks = false) (hK : KM g s) (hI : HI g) {post : Int32 → VV → AA → Prop}  : ∀ n : Nat, ∀ (V : VV) (A : AA) (x3 x4 x5 : Int32), w9_areLike_20 post  n V A x3 x4 x5 → ∀ (H : Heap) (locs : List Loc), HM g V A H → va_S (HA g) s.heap H locs → ∀ (ls : Array Slot), lv_has ls 6 [(0, .ref (mh g)), (3, .int x3), (4, .int x4), (5, .int x5)] → W p l e rm9_areLike s m args below meth c H locs 0 0 (MQ below (MQi g post) args s 0 0 (HA g)) (F0 m 20 ls []) := by
  have hx := S.1
  have hb := S.2.1
  have hown := S.2.2.2.1
  have hts := S.2.2.2.2
  intro n
  induction n with
  | zero =>
    intro V A x3 x4 x5 hw
    exact hw.elim
  | succ n hkb =>
    intro V A x3 x4 x5 hw H locs hM hS ls hl
    unfold w9_areLike_20 b9_areLike_20 at hw
    refine lv_iload hx hb dX9_areLike_20 (lv_at hl 3 rfl) ?_
    refine lv_aload_n hx hb dX9_areLike_22 rfl (lv_at hl 0 rfl) ?_
    refine mo_geti S hK hM 36 (by decide) q815 dX9_areLike_23 rfl ?_
    refine lv_icmp_gt (tgt := 93) hx hb dX9_areLike_26 (by decide) (fun c3 => ?_) (fun c3 => ?_)
    · have hw := hw.1 c3
      refine lv_iload hx hb dX9_areLike_93 (lv_at hl 2 rfl) ?_
      have hz := hw.1
      have hw := hw.2
      exact mo_zret S hr hlocks hM hS (mo_bool hz).1 hw dX9_areLike_95
    · have hw := hw.2 c3
      refine lv_iload hx hb dX9_areLike_29 (lv_at hl 2 rfl) ?_
      refine lv_if_eq (tgt := 84) hx hb dX9_areLike_31 (by decide) (fun c4 => ?_) (fun c4 => ?_)
      · have hw := hw.1 c4
        exact r9_areLike_84 S hr hlocks hK hI hkb _ _ _ _ hw _ _ hM hS _ (lv_sub hl [0, 1, 3] rfl)
      · have hw := hw.2 c4
        refine lv_aload_n hx hb dX9_areLike_34 rfl (lv_at hl 0 rfl) ?_
        refine mo_geta S hK hM 0 (by decide) q779 dX9_areLike_35 rfl ?_
        refine lv_iload_n hx hb dX9_areLike_38 rfl (lv_at hl 1 rfl) ?_
        refine lv_iload hx hb dX9_areLike_39 (lv_at hl 3 rfl) ?_
        refine lv_iadd hx hb dX9_areLike_41 ?_
        have hin := hw.1
        have hw := hw.2
        refine mo_ald S hK hM 0 rfl hin dX9_areLike_42 ?_
        refine lv_aload_n hx hb dX9_areLike_43 rfl (lv_at hl 0 rfl) ?_
        refine mo_geta S hK hM 0 (by decide) q779 dX9_areLike_44 rfl ?_
        refine lv_iload_n hx hb dX9_areLike_47 rfl (lv_at hl 1 rfl) ?_
        refine lv_aload_n hx hb dX9_areLike_48 rfl (lv_at hl 0 rfl) ?_
        refine mo_geti S hK hM 35 (by decide) q814 dX9_areLike_49 rfl ?_
        refine lv_iadd hx hb dX9_areLike_52 ?_
        have hin := hw.1
        have hw := hw.2
        refine mo_ald S hK hM 0 rfl hin dX9_areLike_53 ?_
        refine lv_icmp_ne (tgt := 84) hx hb dX9_areLike_54 (by decide) (fun c5 => ?_) (fun c5 => ?_)
        · have hw := hw.2 c5
          exact r9_areLike_84 S hr hlocks hK hI hkb _ _ _ _ hw _ _ hM hS _ (lv_sub hl [0, 1, 3] rfl)
        · have hw := hw.1 c5
          refine lv_aload_n hx hb dX9_areLike_57 rfl (lv_at hl 0 rfl) ?_
          refine mo_geta S hK hM 1 (by decide) q780 dX9_areLike_58 rfl ?_
          refine lv_iload_n hx hb dX9_areLike_61 rfl (lv_at hl 1 rfl) ?_
          refine lv_iload hx hb dX9_areLike_62 (lv_at hl 3 rfl) ?_
          refine lv_iadd hx hb dX9_areLike_64 ?_
          have hin := hw.1
          have hw := hw.2
          refine mo_ald S hK hM 1 rfl hin dX9_areLike_65 ?_
          refine lv_aload_n hx hb dX9_areLike_66 rfl (lv_at hl 0 rfl) ?_
          refine mo_geta S hK hM 1 (by decide) q780 dX9_areLike_67 rfl ?_
          refine lv_iload_n hx hb dX9_areLike_70 rfl (lv_at hl 1 rfl) ?_
          refine lv_aload_n hx hb dX9_areLike_71 rfl (lv_at hl 0 rfl) ?_
          refine mo_geti S hK hM 35 (by decide) q814 dX9_areLike_72 rfl ?_
          refine lv_iadd hx hb dX9_areLike_75 ?_
          have hin := hw.1
          have hw := hw.2
          refine mo_ald S hK hM 1 rfl hin dX9_areLike_76 ?_
          refine lv_icmp_ne (tgt := 84) hx hb dX9_areLike_77 (by decide) (fun c6 => ?_) (fun c6 => ?_)
          · have hw := hw.2 c6
            exact r9_areLike_84 S hr hlocks hK hI hkb _ _ _ _ hw _ _ hM hS _ (lv_sub hl [0, 1, 3] rfl)
          · have hw := hw.1 c6
            refine lv_iconst (v := 1) hx hb dX9_areLike_80 (by decide) ?_
            refine lv_goto (tgt := 85) hx hb dX9_areLike_81 (by decide) ?_
            exact r9_areLike_85 S hr hlocks hK hI hkb _ _ _ _ _ hw _ _ hM hS _ (lv_sub hl [0, 1, 3] rfl)
def w9_areLike (post : Int32 → VV → AA → Prop) (V : VV) (A : AA) (x1 x2 : Int32) : Prop :=
  ∀ y3_1 : Int32, y3_1 = (192 * x1) + (24 * x2) → (∀ y5_2 : Int32, y5_2 = V 35 → (∃ n, w9_areLike_20 post  n V A y3_1 1 y5_2))
set_option maxHeartbeats 4000000 in
set_option maxRecDepth 100000 in
theorem m9_areLike (l : Launch) (g : MG) (V : VV) (A : AA) (x1 x2 : Int32) (post : Int32 → VV → AA → Prop) (hI : HI g) (hw : w9_areLike post V A x1 x2) : Met l yX9_areLike (ws_ yX9_areLike cX9_areLike 6 (some .boolean)) rm9_areLike (MPc g V A [.ref (mh g), .int x1, .int x2]) (MQi g post) 0 0 (HA g) := by
  refine Met.ofW (cc := cX9_areLike) (maxL := 6) (ret := (some .boolean)) (by decide) rfl ?_
  intro p e s m args below meth c s₁ B hml hv
  obtain ⟨rfl, hK, hM⟩ := hv
  have hx := B.exec
  have hb := B.bytes
  have hr : meth.sig.returnType = (some .boolean) := B.returns
  have hts := atoms_spec (ws := ws_ yX9_areLike cX9_areLike 6 (some .boolean)) B.pre
  have hts : ∀ w ∈ lw_all, w.before _ s = true := fun w h => hts w (List.mem_cons_of_mem _ h)
  have hown : s.vm.findClass RX9 = some m.cls := findClass_of_methodNamed B.named
  have hlocks : meth.locks = false := B.notSynchronized
  have S : CallFix p m c cX9_areLike 6 s _ lw_all RX9 := ⟨hx, hb, hml, hown, hts⟩
  have hS : va_S (HA g) s.heap s.heap [] := va_S.rf
  have hl := lv_entry ([.ref (mh g), .int x1, .int x2]) (n := 6) (Nat.le_of_ble_eq_true rfl)
  rw [lg_entry_eq]
  generalize (lg_sl ([.ref (mh g), .int x1, .int x2]) ++ List.replicate (6 - (lg_sl ([.ref (mh g), .int x1, .int x2])).length) Slot.unset).toArray = ls at hl ⊢
  have hl : lv_has ls 6 [(0, .ref (mh g)), (1, .int x1), (2, .int x2)] := hl
  unfold w9_areLike at hw
  refine lv_sipush (v := 192) hx hb dX9_areLike_0 (by decide) ?_
  refine lv_iload_n hx hb dX9_areLike_3 rfl (lv_at hl 1 rfl) ?_
  refine lv_imul hx hb dX9_areLike_4 ?_
  refine lv_bipush (v := 24) hx hb dX9_areLike_5 (by decide) ?_
  refine lv_iload_n hx hb dX9_areLike_7 rfl (lv_at hl 2 rfl) ?_
  refine lv_imul hx hb dX9_areLike_8 ?_
  refine lv_iadd hx hb dX9_areLike_9 ?_
  refine lv_topi (fun y3_1 ey3_1 => ?_)
  have hw := hw y3_1 ey3_1
  refine lv_istore_n (lv' := [(3, .int y3_1), (0, .ref (mh g)), (1, .int x1), (2, .int x2)]) hx hb dX9_areLike_10 rfl hl (by decide) rfl (fun ls hl => ?_)
  refine lv_iconst (v := 1) hx hb dX9_areLike_11 (by decide) ?_
  refine lv_istore (lv' := [(4, .int 1), (3, .int y3_1), (0, .ref (mh g)), (1, .int x1), (2, .int x2)]) hx hb dX9_areLike_12 hl (by decide) rfl (fun ls hl => ?_)
  refine lv_aload_n hx hb dX9_areLike_14 rfl (lv_at hl 2 rfl) ?_
  refine mo_geti S hK hM 35 (by decide) q814 dX9_areLike_15 rfl ?_
  refine lv_topi (fun y5_2 ey5_2 => ?_)
  have hw := hw y5_2 ey5_2
  refine lv_istore (lv' := [(5, .int y5_2), (4, .int 1), (3, .int y3_1), (0, .ref (mh g)), (1, .int x1), (2, .int x2)]) hx hb dX9_areLike_18 hl (by decide) rfl (fun ls hl => ?_)
  obtain ⟨n, hw⟩ := hw
  refine r9_areLike_20 S hr hlocks hK hI  n _ _ _ _ _ hw _ _ hM hS _ (lv_sub hl [3, 2, 1, 0] rfl)
/-! FarTypewriterModel.rowsOf(IIZ)I -/
abbrev rm9_rowsOf : Room := { frames := 1, cells := 0, slots := 0, locals := 26 }
def b9_rowsOf_121 (post : Int32 → VV → AA → Prop) (k180 : VV → AA → Int32 → Int32 → Int32 → Int32 → Int32 → Prop) (kb : VV → AA → Int32 → Int32 → Int32 → Int32 → Int32 → Int32 → Int32 → Prop) (V : VV) (A : AA) (x1 x2 x3 x4 x5 x7 x8 : Int32) : Prop :=
  (x7 < x8 → k180 V A x1 x2 x3 x4 x5) ∧ (¬ x7 < x8 → vp_in (((192 * x2) + (24 * x5)) + x8) 13248 ∧ (w9_adds (fun (V27 : VV) (A28 : AA) => vp_in (((192 * x2) + (24 * x5)) + x8) 13248 ∧ w9_adds (fun (V30 : VV) (A31 : AA) => kb V30 A31 x1 x2 x3 x4 x5 x7 (x8 + 1)) V27 A28 (A28 1 (((192 * x2) + (24 * x5)) + x8).toNatClampNeg)) V A (A 0 (((192 * x2) + (24 * x5)) + x8).toNatClampNeg)))
def w9_rowsOf_121 (post : Int32 → VV → AA → Prop) (k180 : VV → AA → Int32 → Int32 → Int32 → Int32 → Int32 → Prop) : Nat → VV → AA → Int32 → Int32 → Int32 → Int32 → Int32 → Int32 → Int32 → Prop
  | 0 => fun _ _ _ _ _ _ _ _ _ => False
  | n + 1 => b9_rowsOf_121 post k180 (w9_rowsOf_121 post k180 n)
set_option maxHeartbeats 4000000 in
set_option maxRecDepth 100000 in
theorem r9_rowsOf_121 {p : Program} {l : Launch} {e : Env} {s : State} {m : MethodId} {args : Array Value} {below : List Frame} {meth : Method} {c : Code} {g : MG} (S : CallFix p m c cX9_rowsOf 9 s args lw_all RX9) (hr : meth.sig.returnType = (some .int)) (hlocks : meth.locks = false) (hK : KM g s) (hI : HI g) {post : Int32 → VV → AA → Prop} {k180 : VV → AA → Int32 → Int32 → Int32 → Int32 → Int32 → Prop} (hk180 : ∀ (V : VV) (A : AA) (x1 x2 x3 x4 x5 : Int32), k180 V A x1 x2 x3 x4 x5 → ∀ (H : Heap) (locs : List Loc), HM g V A H → va_S (HA g) s.heap H locs → ∀ (ls : Array Slot), lv_has ls 9 [(0, .ref (mh g)), (1, .int x1), (2, .int x2), (3, .int x3), (4, .int x4), (5, .int x5)] → W p l e rm9_rowsOf s m args below meth c H locs 0 0 (MQ below (MQi g post) args s 0 0 (HA g)) (F0 m 180 ls [])) : ∀ n : Nat, ∀ (V : VV) (A : AA) (x1 x2 x3 x4 x5 x7 x8 : Int32), w9_rowsOf_121 post k180 n V A x1 x2 x3 x4 x5 x7 x8 → ∀ (H : Heap) (locs : List Loc), HM g V A H → va_S (HA g) s.heap H locs → ∀ (ls : Array Slot), lv_has ls 9 [(0, .ref (mh g)), (1, .int x1), (2, .int x2), (3, .int x3), (4, .int x4), (5, .int x5), (7, .int x7), (8, .int x8)] → W p l e rm9_rowsOf s m args below meth c H locs 0 0 (MQ below (MQi g post) args s 0 0 (HA g)) (F0 m 121 ls []) := by
  have hx := S.1
  have hb := S.2.1
  have hown := S.2.2.2.1
  have hts := S.2.2.2.2
  intro n
  induction n with
  | zero =>
    intro V A x1 x2 x3 x4 x5 x7 x8 hw
    exact hw.elim
  | succ n hkb =>
    intro V A x1 x2 x3 x4 x5 x7 x8 hw H locs hM hS ls hl
    unfold w9_rowsOf_121 b9_rowsOf_121 at hw
    refine lv_iload hx hb dX9_rowsOf_121 (lv_at hl 7 rfl) ?_
    refine lv_iload hx hb dX9_rowsOf_123 (lv_at hl 6 rfl) ?_
    refine lv_icmp_gt (tgt := 180) hx hb dX9_rowsOf_125 (by decide) (fun c26 => ?_) (fun c26 => ?_)
    · have hw := hw.1 c26
      exact hk180 _ _ _ _ _ _ _ hw _ _ hM hS _ (lv_sub hl [0, 1, 2, 3, 4, 5] rfl)
    · have hw := hw.2 c26
      refine lv_aload_n hx hb dX9_rowsOf_128 rfl (lv_at hl 0 rfl) ?_
      refine lv_aload_n hx hb dX9_rowsOf_129 rfl (lv_at hl 0 rfl) ?_
      refine mo_geta S hK hM 0 (by decide) q779 dX9_rowsOf_130 rfl ?_
      refine lv_sipush (v := 192) hx hb dX9_rowsOf_133 (by decide) ?_
      refine lv_iload_n hx hb dX9_rowsOf_136 rfl (lv_at hl 2 rfl) ?_
      refine lv_imul hx hb dX9_rowsOf_137 ?_
      refine lv_bipush (v := 24) hx hb dX9_rowsOf_138 (by decide) ?_
      refine lv_iload hx hb dX9_rowsOf_140 (lv_at hl 5 rfl) ?_
      refine lv_imul hx hb dX9_rowsOf_142 ?_
      refine lv_iadd hx hb dX9_rowsOf_143 ?_
      refine lv_iload hx hb dX9_rowsOf_144 (lv_at hl 7 rfl) ?_
      refine lv_iadd hx hb dX9_rowsOf_146 ?_
      have hin := hw.1
      have hw := hw.2
      refine mo_ald S hK hM 0 rfl hin dX9_rowsOf_147 ?_
      refine mo_callv (As := [.int (A 0 (((192 * x2) + (24 * x5)) + x8).toNatClampNeg)]) S hK hM hS (m9_adds l g V A (A 0 (((192 * x2) + (24 * x5)) + x8).toNatClampNeg) _ hI hw) (cwV 1 hts (lw_V q988 q990 qs25 q64 q991) rfl rfl rfl (by decide +kernel) ⟨Nat.le_of_ble_eq_true rfl, Nat.le_of_ble_eq_true rfl⟩) rfl hl.1 rfl (lv_room (Nat.le_of_ble_eq_true rfl)) dX9_rowsOf_148 ⟨Nat.zero_le _, Nat.zero_le _⟩ (fun V27 A28 H locs hw hM hS => ?_)
      refine lv_aload_n hx hb dX9_rowsOf_151 rfl (lv_at hl 0 rfl) ?_
      refine lv_aload_n hx hb dX9_rowsOf_152 rfl (lv_at hl 0 rfl) ?_
      refine mo_geta S hK hM 1 (by decide) q780 dX9_rowsOf_153 rfl ?_
      refine lv_sipush (v := 192) hx hb dX9_rowsOf_156 (by decide) ?_
      refine lv_iload_n hx hb dX9_rowsOf_159 rfl (lv_at hl 2 rfl) ?_
      refine lv_imul hx hb dX9_rowsOf_160 ?_
      refine lv_bipush (v := 24) hx hb dX9_rowsOf_161 (by decide) ?_
      refine lv_iload hx hb dX9_rowsOf_163 (lv_at hl 5 rfl) ?_
      refine lv_imul hx hb dX9_rowsOf_165 ?_
      refine lv_iadd hx hb dX9_rowsOf_166 ?_
      refine lv_iload hx hb dX9_rowsOf_167 (lv_at hl 7 rfl) ?_
      refine lv_iadd hx hb dX9_rowsOf_169 ?_
      have hin := hw.1
      have hw := hw.2
      refine mo_ald S hK hM 1 rfl hin dX9_rowsOf_170 ?_
      refine mo_callv (As := [.int (A28 1 (((192 * x2) + (24 * x5)) + x8).toNatClampNeg)]) S hK hM hS (m9_adds l g V27 A28 (A28 1 (((192 * x2) + (24 * x5)) + x8).toNatClampNeg) _ hI hw) (cwV 1 hts (lw_V q988 q990 qs25 q64 q991) rfl rfl rfl (by decide +kernel) ⟨Nat.le_of_ble_eq_true rfl, Nat.le_of_ble_eq_true rfl⟩) rfl hl.1 rfl (lv_room (Nat.le_of_ble_eq_true rfl)) dX9_rowsOf_171 ⟨Nat.zero_le _, Nat.zero_le _⟩ (fun V30 A31 H locs hw hM hS => ?_)
      refine lv_iinc (v := x8 + 1) (lv' := [(8, .int (x8 + 1)), (0, .ref (mh g)), (1, .int x1), (2, .int x2), (3, .int x3), (4, .int x4), (5, .int x5), (7, .int x7)]) hx hb dX9_rowsOf_174 hl (k := 7) rfl rfl (by decide) rfl (fun ls hl => ?_)
      refine lv_goto (tgt := 121) hx hb dX9_rowsOf_177 (by decide) ?_
      exact hkb _ _ _ _ _ _ _ _ _ hw _ _ hM hS _ (lv_sub hl [1, 2, 3, 4, 5, 6, 7, 0] rfl)
def w9_rowsOf_180 (post : Int32 → VV → AA → Prop) (kb : VV → AA → Int32 → Int32 → Int32 → Int32 → Int32 → Prop) (V : VV) (A : AA) (x1 x2 x3 x4 x5 : Int32) : Prop :=
  kb V A x1 x2 x3 x4 (x5 + 1)
set_option maxHeartbeats 4000000 in
set_option maxRecDepth 100000 in
theorem r9_rowsOf_180 {p : Program} {l : Launch} {e : Env} {s : State} {m : MethodId} {args : Array Value} {below : List Frame} {meth : Method} {c : Code} {g : MG} (S : CallFix p m c cX9_rowsOf 9 s args lw_all RX9) (hr : meth.sig.returnType = (some .int)) (hlocks : meth.locks = false) (hK : KM g s) (hI : HI g) {post : Int32 → VV → AA → Prop} {kb : VV → AA → Int32 → Int32 → Int32 → Int32 → Int32 → Prop} (hkb : ∀ (V : VV) (A : AA) (x1 x2 x3 x4 x5 : Int32), kb V A x1 x2 x3 x4 x5 → ∀ (H : Heap) (locs : List Loc), HM g V A H → va_S (HA g) s.heap H locs → ∀ (ls : Array Slot), lv_has ls 9 [(0, .ref (mh g)), (1, .int x1), (2, .int x2), (3, .int x3), (4, .int x4), (5, .int x5)] → W p l e rm9_rowsOf s m args below meth c H locs 0 0 (MQ below (MQi g post) args s 0 0 (HA g)) (F0 m 6 ls [])) : ∀ (V : VV) (A : AA) (x1 x2 x3 x4 x5 : Int32), w9_rowsOf_180 post kb V A x1 x2 x3 x4 x5 → ∀ (H : Heap) (locs : List Loc), HM g V A H → va_S (HA g) s.heap H locs → ∀ (ls : Array Slot), lv_has ls 9 [(0, .ref (mh g)), (1, .int x1), (2, .int x2), (3, .int x3), (4, .int x4), (5, .int x5)] → W p l e rm9_rowsOf s m args below meth c H locs 0 0 (MQ below (MQi g post) args s 0 0 (HA g)) (F0 m 180 ls []) := by
  have hx := S.1
  have hb := S.2.1
  have hown := S.2.2.2.1
  have hts := S.2.2.2.2
  intro V A x1 x2 x3 x4 x5 hw H locs hM hS ls hl
  unfold w9_rowsOf_180 at hw
  refine lv_iinc (v := x5 + 1) (lv' := [(5, .int (x5 + 1)), (0, .ref (mh g)), (1, .int x1), (2, .int x2), (3, .int x3), (4, .int x4)]) hx hb dX9_rowsOf_180 hl (k := 5) rfl rfl (by decide) rfl (fun ls hl => ?_)
  refine lv_goto (tgt := 6) hx hb dX9_rowsOf_183 (by decide) ?_
  exact hkb _ _ _ _ _ _ _ hw _ _ hM hS _ (lv_sub hl [1, 2, 3, 4, 5, 0] rfl)
def w9_rowsOf_96 (post : Int32 → VV → AA → Prop) (kb : VV → AA → Int32 → Int32 → Int32 → Int32 → Int32 → Prop) (V : VV) (A : AA) (x1 x2 x3 x4 x5 x7 t0 : Int32) : Prop :=
  w9_adds (fun (V16 : VV) (A17 : AA) => w9_adds (fun (V19 : VV) (A20 : AA) => w9_adds (fun (V22 : VV) (A23 : AA) => ∀ y8_25 : Int32, y8_25 = V22 35 → (∃ n, w9_rowsOf_121 post (fun (V38 : VV) (A39 : AA) (x1_33 x2_34 x3_35 x4_36 x5_37 : Int32) => w9_rowsOf_180 post kb V38 A39 x1_33 x2_34 x3_35 x4_36 x5_37) n V22 A23 x1 x2 x3 x4 x5 x7 y8_25)) V19 A20 (V19 36)) V16 A17 (V16 35)) V A t0
set_option maxHeartbeats 4000000 in
set_option maxRecDepth 100000 in
theorem r9_rowsOf_96 {p : Program} {l : Launch} {e : Env} {s : State} {m : MethodId} {args : Array Value} {below : List Frame} {meth : Method} {c : Code} {g : MG} (S : CallFix p m c cX9_rowsOf 9 s args lw_all RX9) (hr : meth.sig.returnType = (some .int)) (hlocks : meth.locks = false) (hK : KM g s) (hI : HI g) {post : Int32 → VV → AA → Prop} {kb : VV → AA → Int32 → Int32 → Int32 → Int32 → Int32 → Prop} (hkb : ∀ (V : VV) (A : AA) (x1 x2 x3 x4 x5 : Int32), kb V A x1 x2 x3 x4 x5 → ∀ (H : Heap) (locs : List Loc), HM g V A H → va_S (HA g) s.heap H locs → ∀ (ls : Array Slot), lv_has ls 9 [(0, .ref (mh g)), (1, .int x1), (2, .int x2), (3, .int x3), (4, .int x4), (5, .int x5)] → W p l e rm9_rowsOf s m args below meth c H locs 0 0 (MQ below (MQi g post) args s 0 0 (HA g)) (F0 m 6 ls [])) : ∀ (V : VV) (A : AA) (x1 x2 x3 x4 x5 x7 t0 : Int32), w9_rowsOf_96 post kb V A x1 x2 x3 x4 x5 x7 t0 → ∀ (H : Heap) (locs : List Loc), HM g V A H → va_S (HA g) s.heap H locs → ∀ (ls : Array Slot), lv_has ls 9 [(0, .ref (mh g)), (1, .int x1), (2, .int x2), (3, .int x3), (4, .int x4), (5, .int x5), (7, .int x7)] → W p l e rm9_rowsOf s m args below meth c H locs 0 0 (MQ below (MQi g post) args s 0 0 (HA g)) (F0 m 96 ls [.int t0, .ref (mh g)]) := by
  have hx := S.1
  have hb := S.2.1
  have hown := S.2.2.2.1
  have hts := S.2.2.2.2
  intro V A x1 x2 x3 x4 x5 x7 t0 hw H locs hM hS ls hl
  unfold w9_rowsOf_96 at hw
  refine mo_callv (As := [.int t0]) S hK hM hS (m9_adds l g V A t0 _ hI hw) (cwV 1 hts (lw_V q988 q990 qs25 q64 q991) rfl rfl rfl (by decide +kernel) ⟨Nat.le_of_ble_eq_true rfl, Nat.le_of_ble_eq_true rfl⟩) rfl hl.1 rfl (lv_room (Nat.le_of_ble_eq_true rfl)) dX9_rowsOf_96 ⟨Nat.zero_le _, Nat.zero_le _⟩ (fun V16 A17 H locs hw hM hS => ?_)
  refine lv_aload_n hx hb dX9_rowsOf_99 rfl (lv_at hl 0 rfl) ?_
  refine lv_aload_n hx hb dX9_rowsOf_100 rfl (lv_at hl 0 rfl) ?_
  refine mo_geti S hK hM 35 (by decide) q814 dX9_rowsOf_101 rfl ?_
  refine mo_callv (As := [.int (V16 35)]) S hK hM hS (m9_adds l g V16 A17 (V16 35) _ hI hw) (cwV 1 hts (lw_V q988 q990 qs25 q64 q991) rfl rfl rfl (by decide +kernel) ⟨Nat.le_of_ble_eq_true rfl, Nat.le_of_ble_eq_true rfl⟩) rfl hl.1 rfl (lv_room (Nat.le_of_ble_eq_true rfl)) dX9_rowsOf_104 ⟨Nat.zero_le _, Nat.zero_le _⟩ (fun V19 A20 H locs hw hM hS => ?_)
  refine lv_aload_n hx hb dX9_rowsOf_107 rfl (lv_at hl 0 rfl) ?_
  refine lv_aload_n hx hb dX9_rowsOf_108 rfl (lv_at hl 0 rfl) ?_
  refine mo_geti S hK hM 36 (by decide) q815 dX9_rowsOf_109 rfl ?_
  refine mo_callv (As := [.int (V19 36)]) S hK hM hS (m9_adds l g V19 A20 (V19 36) _ hI hw) (cwV 1 hts (lw_V q988 q990 qs25 q64 q991) rfl rfl rfl (by decide +kernel) ⟨Nat.le_of_ble_eq_true rfl, Nat.le_of_ble_eq_true rfl⟩) rfl hl.1 rfl (lv_room (Nat.le_of_ble_eq_true rfl)) dX9_rowsOf_112 ⟨Nat.zero_le _, Nat.zero_le _⟩ (fun V22 A23 H locs hw hM hS => ?_)
  refine lv_aload_n hx hb dX9_rowsOf_115 rfl (lv_at hl 0 rfl) ?_
  refine mo_geti S hK hM 35 (by decide) q814 dX9_rowsOf_116 rfl ?_
  refine lv_topi (fun y8_25 ey8_25 => ?_)
  have hw := hw y8_25 ey8_25
  refine lv_istore (lv' := [(8, .int y8_25), (0, .ref (mh g)), (1, .int x1), (2, .int x2), (3, .int x3), (4, .int x4), (5, .int x5), (7, .int x7)]) hx hb dX9_rowsOf_119 hl (by decide) rfl (fun ls hl => ?_)
  obtain ⟨n, hw⟩ := hw
  refine r9_rowsOf_121 S hr hlocks hK hI (fun V38 A39 x1_33 x2_34 x3_35 x4_36 x5_37 hw H locs hM hS ls hl => ?_) n _ _ _ _ _ _ _ _ _ hw _ _ hM hS _ (lv_sub hl [1, 2, 3, 4, 5, 6, 7, 0] rfl)
  exact r9_rowsOf_180 S hr hlocks hK hI hkb _ _ _ _ _ _ _ hw _ _ hM hS _ (lv_sub hl [0, 1, 2, 3, 4, 5] rfl)
def w9_rowsOf_52 (post : Int32 → VV → AA → Prop) (kb : VV → AA → Int32 → Int32 → Int32 → Int32 → Int32 → Prop) (V : VV) (A : AA) (x1 x2 x3 x4 x5 x6 t0 : Int32) : Prop :=
  ∀ y4_10 : Int32, y4_10 = x4 + (4 + (2 * ((t0 - (V 35)) + 1))) → ((x3 = 0 → w9_rowsOf_180 post kb V A x1 x2 x3 y4_10 x5) ∧ (¬ x3 = 0 → w9_adds (fun (V12 : VV) (A13 : AA) => (x6 = 0 → w9_rowsOf_96 post kb V12 A13 x1 x2 x3 y4_10 x5 t0 0) ∧ (¬ x6 = 0 → w9_rowsOf_96 post kb V12 A13 x1 x2 x3 y4_10 x5 t0 1)) V A x5))
set_option maxHeartbeats 4000000 in
set_option maxRecDepth 100000 in
theorem r9_rowsOf_52 {p : Program} {l : Launch} {e : Env} {s : State} {m : MethodId} {args : Array Value} {below : List Frame} {meth : Method} {c : Code} {g : MG} (S : CallFix p m c cX9_rowsOf 9 s args lw_all RX9) (hr : meth.sig.returnType = (some .int)) (hlocks : meth.locks = false) (hK : KM g s) (hI : HI g) {post : Int32 → VV → AA → Prop} {kb : VV → AA → Int32 → Int32 → Int32 → Int32 → Int32 → Prop} (hkb : ∀ (V : VV) (A : AA) (x1 x2 x3 x4 x5 : Int32), kb V A x1 x2 x3 x4 x5 → ∀ (H : Heap) (locs : List Loc), HM g V A H → va_S (HA g) s.heap H locs → ∀ (ls : Array Slot), lv_has ls 9 [(0, .ref (mh g)), (1, .int x1), (2, .int x2), (3, .int x3), (4, .int x4), (5, .int x5)] → W p l e rm9_rowsOf s m args below meth c H locs 0 0 (MQ below (MQi g post) args s 0 0 (HA g)) (F0 m 6 ls [])) : ∀ (V : VV) (A : AA) (x1 x2 x3 x4 x5 x6 t0 : Int32), w9_rowsOf_52 post kb V A x1 x2 x3 x4 x5 x6 t0 → ∀ (H : Heap) (locs : List Loc), HM g V A H → va_S (HA g) s.heap H locs → ∀ (ls : Array Slot), lv_has ls 9 [(0, .ref (mh g)), (1, .int x1), (2, .int x2), (3, .int x3), (4, .int x4), (5, .int x5), (6, .int x6)] → W p l e rm9_rowsOf s m args below meth c H locs 0 0 (MQ below (MQi g post) args s 0 0 (HA g)) (F0 m 52 ls [.int t0]) := by
  have hx := S.1
  have hb := S.2.1
  have hown := S.2.2.2.1
  have hts := S.2.2.2.2
  intro V A x1 x2 x3 x4 x5 x6 t0 hw H locs hM hS ls hl
  unfold w9_rowsOf_52 at hw
  refine lv_istore (lv' := [(7, .int t0), (0, .ref (mh g)), (1, .int x1), (2, .int x2), (3, .int x3), (4, .int x4), (5, .int x5), (6, .int x6)]) hx hb dX9_rowsOf_52 hl (by decide) rfl (fun ls hl => ?_)
  refine lv_iload hx hb dX9_rowsOf_54 (lv_at hl 5 rfl) ?_
  refine lv_iconst (v := 4) hx hb dX9_rowsOf_56 (by decide) ?_
  refine lv_iconst (v := 2) hx hb dX9_rowsOf_57 (by decide) ?_
  refine lv_iload hx hb dX9_rowsOf_58 (lv_at hl 0 rfl) ?_
  refine lv_aload_n hx hb dX9_rowsOf_60 rfl (lv_at hl 1 rfl) ?_
  refine mo_geti S hK hM 35 (by decide) q814 dX9_rowsOf_61 rfl ?_
  refine lv_isub hx hb dX9_rowsOf_64 ?_
  refine lv_iconst (v := 1) hx hb dX9_rowsOf_65 (by decide) ?_
  refine lv_iadd hx hb dX9_rowsOf_66 ?_
  refine lv_imul hx hb dX9_rowsOf_67 ?_
  refine lv_iadd hx hb dX9_rowsOf_68 ?_
  refine lv_iadd hx hb dX9_rowsOf_69 ?_
  refine lv_topi (fun y4_10 ey4_10 => ?_)
  have hw := hw y4_10 ey4_10
  refine lv_istore (lv' := [(4, .int y4_10), (7, .int t0), (0, .ref (mh g)), (1, .int x1), (2, .int x2), (3, .int x3), (5, .int x5), (6, .int x6)]) hx hb dX9_rowsOf_70 hl (by decide) rfl (fun ls hl => ?_)
  refine lv_iload_n hx hb dX9_rowsOf_72 rfl (lv_at hl 5 rfl) ?_
  refine lv_if_ne (tgt := 79) hx hb dX9_rowsOf_73 (by decide) (fun c11 => ?_) (fun c11 => ?_)
  · have hw := hw.2 c11
    refine lv_aload_n hx hb dX9_rowsOf_79 rfl (lv_at hl 2 rfl) ?_
    refine lv_iload hx hb dX9_rowsOf_80 (lv_at hl 6 rfl) ?_
    refine mo_callv (As := [.int x5]) S hK hM hS (m9_adds l g V A x5 _ hI hw) (cwV 1 hts (lw_V q988 q990 qs25 q64 q991) rfl rfl rfl (by decide +kernel) ⟨Nat.le_of_ble_eq_true rfl, Nat.le_of_ble_eq_true rfl⟩) rfl hl.1 rfl (lv_room (Nat.le_of_ble_eq_true rfl)) dX9_rowsOf_82 ⟨Nat.zero_le _, Nat.zero_le _⟩ (fun V12 A13 H locs hw hM hS => ?_)
    refine lv_aload_n hx hb dX9_rowsOf_85 rfl (lv_at hl 2 rfl) ?_
    refine lv_iload hx hb dX9_rowsOf_86 (lv_at hl 7 rfl) ?_
    refine lv_if_eq (tgt := 95) hx hb dX9_rowsOf_88 (by decide) (fun c15 => ?_) (fun c15 => ?_)
    · have hw := hw.1 c15
      refine lv_iconst (v := 0) hx hb dX9_rowsOf_95 (by decide) ?_
      exact r9_rowsOf_96 S hr hlocks hK hI hkb _ _ _ _ _ _ _ _ _ hw _ _ hM hS _ (lv_sub hl [2, 3, 4, 5, 0, 6, 1] rfl)
    · have hw := hw.2 c15
      refine lv_iconst (v := 1) hx hb dX9_rowsOf_91 (by decide) ?_
      refine lv_goto (tgt := 96) hx hb dX9_rowsOf_92 (by decide) ?_
      exact r9_rowsOf_96 S hr hlocks hK hI hkb _ _ _ _ _ _ _ _ _ hw _ _ hM hS _ (lv_sub hl [2, 3, 4, 5, 0, 6, 1] rfl)
  · have hw := hw.1 c11
    refine lv_goto (tgt := 180) hx hb dX9_rowsOf_76 (by decide) ?_
    exact r9_rowsOf_180 S hr hlocks hK hI hkb _ _ _ _ _ _ _ hw _ _ hM hS _ (lv_sub hl [2, 3, 4, 5, 0, 6] rfl)
def b9_rowsOf_6 (post : Int32 → VV → AA → Prop)  (kb : VV → AA → Int32 → Int32 → Int32 → Int32 → Int32 → Prop) (V : VV) (A : AA) (x1 x2 x3 x4 x5 : Int32) : Prop :=
  (8 ≤ x5 → post x4 V A) ∧ (¬ 8 ≤ x5 → w9_differs (fun (r4 : Int32) (V2 : VV) (A3 : AA) => (r4 = 0 → w9_rowsOf_180 post kb V2 A3 x1 x2 x3 x4 x5) ∧ (¬ r4 = 0 → w9_areLike (fun (r8 : Int32) (V6 : VV) (A7 : AA) => (r8 = 0 → w9_rowsOf_52 post kb V6 A7 x1 x2 x3 x4 x5 r8 (V6 36)) ∧ (¬ r8 = 0 → w9_rowsOf_52 post kb V6 A7 x1 x2 x3 x4 x5 r8 (V6 35))) V2 A3 x2 x5)) V A x1 x2 x5)
def w9_rowsOf_6 (post : Int32 → VV → AA → Prop)  : Nat → VV → AA → Int32 → Int32 → Int32 → Int32 → Int32 → Prop
  | 0 => fun _ _ _ _ _ _ _ => False
  | n + 1 => b9_rowsOf_6 post  (w9_rowsOf_6 post  n)
set_option maxHeartbeats 4000000 in
set_option maxRecDepth 100000 in
theorem r9_rowsOf_6 {p : Program} {l : Launch} {e : Env} {s : State} {m : MethodId} {args : Array Value} {below : List Frame} {meth : Method} {c : Code} {g : MG} (S : CallFix p m c cX9_rowsOf 9 s args lw_all RX9) (hr : meth.sig.returnType = (some .int)) (hlocks : meth.locks = false) (hK : KM g s) (hI : HI g) {post : Int32 → VV → AA → Prop}  : ∀ n : Nat, ∀ (V : VV) (A : AA) (x1 x2 x3 x4 x5 : Int32), w9_rowsOf_6 post  n V A x1 x2 x3 x4 x5 → ∀ (H : Heap) (locs : List Loc), HM g V A H → va_S (HA g) s.heap H locs → ∀ (ls : Array Slot), lv_has ls 9 [(0, .ref (mh g)), (1, .int x1), (2, .int x2), (3, .int x3), (4, .int x4), (5, .int x5)] → W p l e rm9_rowsOf s m args below meth c H locs 0 0 (MQ below (MQi g post) args s 0 0 (HA g)) (F0 m 6 ls []) := by
  have hx := S.1
  have hb := S.2.1
  have hown := S.2.2.2.1
  have hts := S.2.2.2.2
  intro n
  induction n with
  | zero =>
    intro V A x1 x2 x3 x4 x5 hw
    exact hw.elim
  | succ n hkb =>
    intro V A x1 x2 x3 x4 x5 hw H locs hM hS ls hl
    unfold w9_rowsOf_6 b9_rowsOf_6 at hw
    refine lv_iload hx hb dX9_rowsOf_6 (lv_at hl 5 rfl) ?_
    refine lv_bipush (v := 8) hx hb dX9_rowsOf_8 (by decide) ?_
    refine lv_icmp_ge (tgt := 186) hx hb dX9_rowsOf_10 (by decide) (fun c1 => ?_) (fun c1 => ?_)
    · have hw := hw.1 c1
      refine lv_iload hx hb dX9_rowsOf_186 (lv_at hl 4 rfl) ?_
      exact mo_iret S hr hlocks hM hS hw dX9_rowsOf_188
    · have hw := hw.2 c1
      refine lv_aload_n hx hb dX9_rowsOf_13 rfl (lv_at hl 0 rfl) ?_
      refine lv_iload_n hx hb dX9_rowsOf_14 rfl (lv_at hl 1 rfl) ?_
      refine lv_iload_n hx hb dX9_rowsOf_15 rfl (lv_at hl 2 rfl) ?_
      refine lv_iload hx hb dX9_rowsOf_16 (lv_at hl 5 rfl) ?_
      refine mo_calli (As := [.int x1, .int x2, .int x5]) S hK hM hS (m9_differs l g V A x1 x2 x5 _ hI hw) (cwV 3 hts (lw_V q1008 q1010 qs30 q64 q1011) rfl rfl rfl (by decide +kernel) ⟨Nat.le_of_ble_eq_true rfl, Nat.le_of_ble_eq_true rfl⟩) rfl hl.1 rfl (lv_room (Nat.le_of_ble_eq_true rfl)) dX9_rowsOf_18 ⟨Nat.zero_le _, Nat.zero_le _⟩ (fun r4 V2 A3 H locs hw hM hS => ?_)
      refine lv_if_ne (tgt := 27) hx hb dX9_rowsOf_21 (by decide) (fun c5 => ?_) (fun c5 => ?_)
      · have hw := hw.2 c5
        refine lv_aload_n hx hb dX9_rowsOf_27 rfl (lv_at hl 0 rfl) ?_
        refine lv_iload_n hx hb dX9_rowsOf_28 rfl (lv_at hl 2 rfl) ?_
        refine lv_iload hx hb dX9_rowsOf_29 (lv_at hl 5 rfl) ?_
        refine mo_calli (As := [.int x2, .int x5]) S hK hM hS (m9_areLike l g V2 A3 x2 x5 _ hI hw) (cwV 2 hts (lw_V q1012 q1014 qs31 q64 q1015) rfl rfl rfl (by decide +kernel) ⟨Nat.le_of_ble_eq_true rfl, Nat.le_of_ble_eq_true rfl⟩) rfl hl.1 rfl (lv_room (Nat.le_of_ble_eq_true rfl)) dX9_rowsOf_31 ⟨Nat.zero_le _, Nat.zero_le _⟩ (fun r8 V6 A7 H locs hw hM hS => ?_)
        refine lv_istore (lv' := [(6, .int r8), (0, .ref (mh g)), (1, .int x1), (2, .int x2), (3, .int x3), (4, .int x4), (5, .int x5)]) hx hb dX9_rowsOf_34 hl (by decide) rfl (fun ls hl => ?_)
        refine lv_iload hx hb dX9_rowsOf_36 (lv_at hl 0 rfl) ?_
        refine lv_if_eq (tgt := 48) hx hb dX9_rowsOf_38 (by decide) (fun c9 => ?_) (fun c9 => ?_)
        · have hw := hw.1 c9
          refine lv_aload_n hx hb dX9_rowsOf_48 rfl (lv_at hl 1 rfl) ?_
          refine mo_geti S hK hM 36 (by decide) q815 dX9_rowsOf_49 rfl ?_
          exact r9_rowsOf_52 S hr hlocks hK hI hkb _ _ _ _ _ _ _ _ _ hw _ _ hM hS _ (lv_sub hl [1, 2, 3, 4, 5, 6, 0] rfl)
        · have hw := hw.2 c9
          refine lv_aload_n hx hb dX9_rowsOf_41 rfl (lv_at hl 1 rfl) ?_
          refine mo_geti S hK hM 35 (by decide) q814 dX9_rowsOf_42 rfl ?_
          refine lv_goto (tgt := 52) hx hb dX9_rowsOf_45 (by decide) ?_
          exact r9_rowsOf_52 S hr hlocks hK hI hkb _ _ _ _ _ _ _ _ _ hw _ _ hM hS _ (lv_sub hl [1, 2, 3, 4, 5, 6, 0] rfl)
      · have hw := hw.1 c5
        refine lv_goto (tgt := 180) hx hb dX9_rowsOf_24 (by decide) ?_
        exact r9_rowsOf_180 S hr hlocks hK hI hkb _ _ _ _ _ _ _ hw _ _ hM hS _ (lv_sub hl [0, 1, 2, 3, 4, 5] rfl)
def w9_rowsOf (post : Int32 → VV → AA → Prop) (V : VV) (A : AA) (x1 x2 x3 : Int32) : Prop :=
  ∃ n, w9_rowsOf_6 post  n V A x1 x2 x3 0 0
set_option maxHeartbeats 4000000 in
set_option maxRecDepth 100000 in
theorem m9_rowsOf (l : Launch) (g : MG) (V : VV) (A : AA) (x1 x2 x3 : Int32) (post : Int32 → VV → AA → Prop) (hI : HI g) (hw : w9_rowsOf post V A x1 x2 x3) : Met l yX9_rowsOf (ws_ yX9_rowsOf cX9_rowsOf 9 (some .int)) rm9_rowsOf (MPc g V A [.ref (mh g), .int x1, .int x2, .int x3]) (MQi g post) 0 0 (HA g) := by
  refine Met.ofW (cc := cX9_rowsOf) (maxL := 9) (ret := (some .int)) (by decide) rfl ?_
  intro p e s m args below meth c s₁ B hml hv
  obtain ⟨rfl, hK, hM⟩ := hv
  have hx := B.exec
  have hb := B.bytes
  have hr : meth.sig.returnType = (some .int) := B.returns
  have hts := atoms_spec (ws := ws_ yX9_rowsOf cX9_rowsOf 9 (some .int)) B.pre
  have hts : ∀ w ∈ lw_all, w.before _ s = true := fun w h => hts w (List.mem_cons_of_mem _ h)
  have hown : s.vm.findClass RX9 = some m.cls := findClass_of_methodNamed B.named
  have hlocks : meth.locks = false := B.notSynchronized
  have S : CallFix p m c cX9_rowsOf 9 s _ lw_all RX9 := ⟨hx, hb, hml, hown, hts⟩
  have hS : va_S (HA g) s.heap s.heap [] := va_S.rf
  have hl := lv_entry ([.ref (mh g), .int x1, .int x2, .int x3]) (n := 9) (Nat.le_of_ble_eq_true rfl)
  rw [lg_entry_eq]
  generalize (lg_sl ([.ref (mh g), .int x1, .int x2, .int x3]) ++ List.replicate (9 - (lg_sl ([.ref (mh g), .int x1, .int x2, .int x3])).length) Slot.unset).toArray = ls at hl ⊢
  have hl : lv_has ls 9 [(0, .ref (mh g)), (1, .int x1), (2, .int x2), (3, .int x3)] := hl
  unfold w9_rowsOf at hw
  refine lv_iconst (v := 0) hx hb dX9_rowsOf_0 (by decide) ?_
  refine lv_istore (lv' := [(4, .int 0), (0, .ref (mh g)), (1, .int x1), (2, .int x2), (3, .int x3)]) hx hb dX9_rowsOf_1 hl (by decide) rfl (fun ls hl => ?_)
  refine lv_iconst (v := 0) hx hb dX9_rowsOf_3 (by decide) ?_
  refine lv_istore (lv' := [(5, .int 0), (4, .int 0), (0, .ref (mh g)), (1, .int x1), (2, .int x2), (3, .int x3)]) hx hb dX9_rowsOf_4 hl (by decide) rfl (fun ls hl => ?_)
  obtain ⟨n, hw⟩ := hw
  refine r9_rowsOf_6 S hr hlocks hK hI  n _ _ _ _ _ _ _ hw _ _ hM hS _ (lv_sub hl [2, 3, 4, 5, 1, 0] rfl)
/-! FarTypewriterModel.difference(II)V -/
abbrev rm9_difference : Room := { frames := 2, cells := 0, slots := 0, locals := 54 }
def w9_difference_63 (post : VV → AA → Prop) (kb : VV → AA → Int32 → Int32 → Int32 → Int32 → Int32 → Prop) (V : VV) (A : AA) (x1 x2 x3 x4 x5 : Int32) : Prop :=
  kb V A x1 x2 x3 x4 (x5 + 1)
set_option maxHeartbeats 4000000 in
set_option maxRecDepth 100000 in
theorem r9_difference_63 {p : Program} {l : Launch} {e : Env} {s : State} {m : MethodId} {args : Array Value} {below : List Frame} {meth : Method} {c : Code} {g : MG} (S : CallFix p m c cX9_difference 7 s args lw_all RX9) (hr : meth.sig.returnType = none) (hlocks : meth.locks = false) (hK : KM g s) (hI : HI g) {post : VV → AA → Prop} {kb : VV → AA → Int32 → Int32 → Int32 → Int32 → Int32 → Prop} (hkb : ∀ (V : VV) (A : AA) (x1 x2 x3 x4 x5 : Int32), kb V A x1 x2 x3 x4 x5 → ∀ (H : Heap) (locs : List Loc), HM g V A H → va_S (HA g) s.heap H locs → ∀ (ls : Array Slot), lv_has ls 7 [(0, .ref (mh g)), (1, .int x1), (2, .int x2), (3, .int x3), (4, .int x4), (5, .int x5)] → W p l e rm9_difference s m args below meth c H locs 0 0 (MQ below (MQv g post) args s 0 0 (HA g)) (F0 m 8 ls [])) : ∀ (V : VV) (A : AA) (x1 x2 x3 x4 x5 : Int32), w9_difference_63 post kb V A x1 x2 x3 x4 x5 → ∀ (H : Heap) (locs : List Loc), HM g V A H → va_S (HA g) s.heap H locs → ∀ (ls : Array Slot), lv_has ls 7 [(0, .ref (mh g)), (1, .int x1), (2, .int x2), (3, .int x3), (4, .int x4), (5, .int x5)] → W p l e rm9_difference s m args below meth c H locs 0 0 (MQ below (MQv g post) args s 0 0 (HA g)) (F0 m 63 ls []) := by
  have hx := S.1
  have hb := S.2.1
  have hown := S.2.2.2.1
  have hts := S.2.2.2.2
  intro V A x1 x2 x3 x4 x5 hw H locs hM hS ls hl
  unfold w9_difference_63 at hw
  refine lv_iinc (v := x5 + 1) (lv' := [(5, .int (x5 + 1)), (0, .ref (mh g)), (1, .int x1), (2, .int x2), (3, .int x3), (4, .int x4)]) hx hb dX9_difference_63 hl (k := 5) rfl rfl (by decide) rfl (fun ls hl => ?_)
  refine lv_goto (tgt := 8) hx hb dX9_difference_66 (by decide) ?_
  exact hkb _ _ _ _ _ _ _ hw _ _ hM hS _ (lv_sub hl [1, 2, 3, 4, 5, 0] rfl)
def w9_difference_56 (post : VV → AA → Prop) (kb : VV → AA → Int32 → Int32 → Int32 → Int32 → Int32 → Prop) (V : VV) (A : AA) (x1 x2 x5 x6 : Int32) : Prop :=
  w9_difference_63 post kb V A x1 x2 x5 x6 x5
set_option maxHeartbeats 4000000 in
set_option maxRecDepth 100000 in
theorem r9_difference_56 {p : Program} {l : Launch} {e : Env} {s : State} {m : MethodId} {args : Array Value} {below : List Frame} {meth : Method} {c : Code} {g : MG} (S : CallFix p m c cX9_difference 7 s args lw_all RX9) (hr : meth.sig.returnType = none) (hlocks : meth.locks = false) (hK : KM g s) (hI : HI g) {post : VV → AA → Prop} {kb : VV → AA → Int32 → Int32 → Int32 → Int32 → Int32 → Prop} (hkb : ∀ (V : VV) (A : AA) (x1 x2 x3 x4 x5 : Int32), kb V A x1 x2 x3 x4 x5 → ∀ (H : Heap) (locs : List Loc), HM g V A H → va_S (HA g) s.heap H locs → ∀ (ls : Array Slot), lv_has ls 7 [(0, .ref (mh g)), (1, .int x1), (2, .int x2), (3, .int x3), (4, .int x4), (5, .int x5)] → W p l e rm9_difference s m args below meth c H locs 0 0 (MQ below (MQv g post) args s 0 0 (HA g)) (F0 m 8 ls [])) : ∀ (V : VV) (A : AA) (x1 x2 x5 x6 : Int32), w9_difference_56 post kb V A x1 x2 x5 x6 → ∀ (H : Heap) (locs : List Loc), HM g V A H → va_S (HA g) s.heap H locs → ∀ (ls : Array Slot), lv_has ls 7 [(0, .ref (mh g)), (1, .int x1), (2, .int x2), (5, .int x5), (6, .int x6)] → W p l e rm9_difference s m args below meth c H locs 0 0 (MQ below (MQv g post) args s 0 0 (HA g)) (F0 m 56 ls []) := by
  have hx := S.1
  have hb := S.2.1
  have hown := S.2.2.2.1
  have hts := S.2.2.2.2
  intro V A x1 x2 x5 x6 hw H locs hM hS ls hl
  unfold w9_difference_56 at hw
  refine lv_iload hx hb dX9_difference_56 (lv_at hl 3 rfl) ?_
  refine lv_istore_n (lv' := [(3, .int x5), (0, .ref (mh g)), (1, .int x1), (2, .int x2), (5, .int x5), (6, .int x6)]) hx hb dX9_difference_58 rfl hl (by decide) rfl (fun ls hl => ?_)
  refine lv_iload hx hb dX9_difference_59 (lv_at hl 5 rfl) ?_
  refine lv_istore (lv' := [(4, .int x6), (3, .int x5), (0, .ref (mh g)), (1, .int x1), (2, .int x2), (5, .int x5), (6, .int x6)]) hx hb dX9_difference_61 hl (by decide) rfl (fun ls hl => ?_)
  exact r9_difference_63 S hr hlocks hK hI hkb _ _ _ _ _ _ _ hw _ _ hM hS _ (lv_sub hl [2, 3, 4, 1, 0, 5] rfl)
def b9_difference_8 (post : VV → AA → Prop)  (kb : VV → AA → Int32 → Int32 → Int32 → Int32 → Int32 → Prop) (V : VV) (A : AA) (x1 x2 x3 x4 x5 : Int32) : Prop :=
  (9 ≤ x5 → w9_copies (fun (V2 : VV) (A3 : AA) => w9_scrolls (fun (V5 : VV) (A6 : AA) => w9_adds (fun (V8 : VV) (A9 : AA) => w9_rowsOf (fun (r13 : Int32) (V11 : VV) (A12 : AA) => post V11 A12) V8 A9 67 x2 1) V5 A6 x3) V2 A3 67 x3) V A x1 67) ∧ (¬ 9 ≤ x5 → w9_copies (fun (V14 : VV) (A15 : AA) => w9_scrolls (fun (V17 : VV) (A18 : AA) => w9_rowsOf (fun (r22 : Int32) (V20 : VV) (A21 : AA) => (x4 = (-1) → w9_difference_56 post kb V20 A21 x1 x2 x5 r22) ∧ (¬ x4 = (-1) → (r22 < x4 → w9_difference_56 post kb V20 A21 x1 x2 x5 r22) ∧ (¬ r22 < x4 → w9_difference_63 post kb V20 A21 x1 x2 x3 x4 x5))) V17 A18 67 x2 0) V14 A15 67 x5) V A x1 67)
def w9_difference_8 (post : VV → AA → Prop)  : Nat → VV → AA → Int32 → Int32 → Int32 → Int32 → Int32 → Prop
  | 0 => fun _ _ _ _ _ _ _ => False
  | n + 1 => b9_difference_8 post  (w9_difference_8 post  n)
set_option maxHeartbeats 4000000 in
set_option maxRecDepth 100000 in
theorem r9_difference_8 {p : Program} {l : Launch} {e : Env} {s : State} {m : MethodId} {args : Array Value} {below : List Frame} {meth : Method} {c : Code} {g : MG} (S : CallFix p m c cX9_difference 7 s args lw_all RX9) (hr : meth.sig.returnType = none) (hlocks : meth.locks = false) (hK : KM g s) (hI : HI g) {post : VV → AA → Prop}  : ∀ n : Nat, ∀ (V : VV) (A : AA) (x1 x2 x3 x4 x5 : Int32), w9_difference_8 post  n V A x1 x2 x3 x4 x5 → ∀ (H : Heap) (locs : List Loc), HM g V A H → va_S (HA g) s.heap H locs → ∀ (ls : Array Slot), lv_has ls 7 [(0, .ref (mh g)), (1, .int x1), (2, .int x2), (3, .int x3), (4, .int x4), (5, .int x5)] → W p l e rm9_difference s m args below meth c H locs 0 0 (MQ below (MQv g post) args s 0 0 (HA g)) (F0 m 8 ls []) := by
  have hx := S.1
  have hb := S.2.1
  have hown := S.2.2.2.1
  have hts := S.2.2.2.2
  intro n
  induction n with
  | zero =>
    intro V A x1 x2 x3 x4 x5 hw
    exact hw.elim
  | succ n hkb =>
    intro V A x1 x2 x3 x4 x5 hw H locs hM hS ls hl
    unfold w9_difference_8 b9_difference_8 at hw
    refine lv_iload hx hb dX9_difference_8 (lv_at hl 5 rfl) ?_
    refine lv_bipush (v := 9) hx hb dX9_difference_10 (by decide) ?_
    refine lv_icmp_ge (tgt := 69) hx hb dX9_difference_12 (by decide) (fun c1 => ?_) (fun c1 => ?_)
    · have hw := hw.1 c1
      refine lv_aload_n hx hb dX9_difference_69 rfl (lv_at hl 0 rfl) ?_
      refine lv_iload_n hx hb dX9_difference_70 rfl (lv_at hl 1 rfl) ?_
      refine lv_bipush (v := 67) hx hb dX9_difference_71 (by decide) ?_
      refine mo_callv (As := [.int x1, .int 67]) S hK hM hS (m9_copies l g V A x1 67 _ hI hw) (cwV 2 hts (lw_V q984 q986 qs24 q64 q987) rfl rfl rfl (by decide +kernel) ⟨Nat.le_of_ble_eq_true rfl, Nat.le_of_ble_eq_true rfl⟩) rfl hl.1 rfl (lv_room (Nat.le_of_ble_eq_true rfl)) dX9_difference_73 ⟨Nat.zero_le _, Nat.zero_le _⟩ (fun V2 A3 H locs hw hM hS => ?_)
      refine lv_aload_n hx hb dX9_difference_76 rfl (lv_at hl 0 rfl) ?_
      refine lv_bipush (v := 67) hx hb dX9_difference_77 (by decide) ?_
      refine lv_iload_n hx hb dX9_difference_79 rfl (lv_at hl 3 rfl) ?_
      refine mo_callv (As := [.int 67, .int x3]) S hK hM hS (m9_scrolls l g V2 A3 67 x3 _ hI hw) (cwV 2 hts (lw_V q941 q943 qs19 q64 q944) rfl rfl rfl (by decide +kernel) ⟨Nat.le_of_ble_eq_true rfl, Nat.le_of_ble_eq_true rfl⟩) rfl hl.1 rfl (lv_room (Nat.le_of_ble_eq_true rfl)) dX9_difference_80 ⟨Nat.zero_le _, Nat.zero_le _⟩ (fun V5 A6 H locs hw hM hS => ?_)
      refine lv_aload_n hx hb dX9_difference_83 rfl (lv_at hl 0 rfl) ?_
      refine lv_iload_n hx hb dX9_difference_84 rfl (lv_at hl 3 rfl) ?_
      refine mo_callv (As := [.int x3]) S hK hM hS (m9_adds l g V5 A6 x3 _ hI hw) (cwV 1 hts (lw_V q988 q990 qs25 q64 q991) rfl rfl rfl (by decide +kernel) ⟨Nat.le_of_ble_eq_true rfl, Nat.le_of_ble_eq_true rfl⟩) rfl hl.1 rfl (lv_room (Nat.le_of_ble_eq_true rfl)) dX9_difference_85 ⟨Nat.zero_le _, Nat.zero_le _⟩ (fun V8 A9 H locs hw hM hS => ?_)
      refine lv_aload_n hx hb dX9_difference_88 rfl (lv_at hl 0 rfl) ?_
      refine lv_bipush (v := 67) hx hb dX9_difference_89 (by decide) ?_
      refine lv_iload_n hx hb dX9_difference_91 rfl (lv_at hl 2 rfl) ?_
      refine lv_iconst (v := 1) hx hb dX9_difference_92 (by decide) ?_
      refine mo_calli (As := [.int 67, .int x2, .int 1]) S hK hM hS (m9_rowsOf l g V8 A9 67 x2 1 _ hI hw) (cwV 3 hts (lw_V q1004 q1006 qs29 q64 q1007) rfl rfl rfl (by decide +kernel) ⟨Nat.le_of_ble_eq_true rfl, Nat.le_of_ble_eq_true rfl⟩) rfl hl.1 rfl (lv_room (Nat.le_of_ble_eq_true rfl)) dX9_difference_93 ⟨Nat.zero_le _, Nat.zero_le _⟩ (fun r13 V11 A12 H locs hw hM hS => ?_)
      refine lv_pop hx hb dX9_difference_96 rfl ?_
      exact mo_vret S hr hlocks hM hS hw dX9_difference_97
    · have hw := hw.2 c1
      refine lv_aload_n hx hb dX9_difference_15 rfl (lv_at hl 0 rfl) ?_
      refine lv_iload_n hx hb dX9_difference_16 rfl (lv_at hl 1 rfl) ?_
      refine lv_bipush (v := 67) hx hb dX9_difference_17 (by decide) ?_
      refine mo_callv (As := [.int x1, .int 67]) S hK hM hS (m9_copies l g V A x1 67 _ hI hw) (cwV 2 hts (lw_V q984 q986 qs24 q64 q987) rfl rfl rfl (by decide +kernel) ⟨Nat.le_of_ble_eq_true rfl, Nat.le_of_ble_eq_true rfl⟩) rfl hl.1 rfl (lv_room (Nat.le_of_ble_eq_true rfl)) dX9_difference_19 ⟨Nat.zero_le _, Nat.zero_le _⟩ (fun V14 A15 H locs hw hM hS => ?_)
      refine lv_aload_n hx hb dX9_difference_22 rfl (lv_at hl 0 rfl) ?_
      refine lv_bipush (v := 67) hx hb dX9_difference_23 (by decide) ?_
      refine lv_iload hx hb dX9_difference_25 (lv_at hl 5 rfl) ?_
      refine mo_callv (As := [.int 67, .int x5]) S hK hM hS (m9_scrolls l g V14 A15 67 x5 _ hI hw) (cwV 2 hts (lw_V q941 q943 qs19 q64 q944) rfl rfl rfl (by decide +kernel) ⟨Nat.le_of_ble_eq_true rfl, Nat.le_of_ble_eq_true rfl⟩) rfl hl.1 rfl (lv_room (Nat.le_of_ble_eq_true rfl)) dX9_difference_27 ⟨Nat.zero_le _, Nat.zero_le _⟩ (fun V17 A18 H locs hw hM hS => ?_)
      refine lv_aload_n hx hb dX9_difference_30 rfl (lv_at hl 0 rfl) ?_
      refine lv_bipush (v := 67) hx hb dX9_difference_31 (by decide) ?_
      refine lv_iload_n hx hb dX9_difference_33 rfl (lv_at hl 2 rfl) ?_
      refine lv_iconst (v := 0) hx hb dX9_difference_34 (by decide) ?_
      refine mo_calli (As := [.int 67, .int x2, .int 0]) S hK hM hS (m9_rowsOf l g V17 A18 67 x2 0 _ hI hw) (cwV 3 hts (lw_V q1004 q1006 qs29 q64 q1007) rfl rfl rfl (by decide +kernel) ⟨Nat.le_of_ble_eq_true rfl, Nat.le_of_ble_eq_true rfl⟩) rfl hl.1 rfl (lv_room (Nat.le_of_ble_eq_true rfl)) dX9_difference_35 ⟨Nat.zero_le _, Nat.zero_le _⟩ (fun r22 V20 A21 H locs hw hM hS => ?_)
      refine lv_istore (lv' := [(6, .int r22), (0, .ref (mh g)), (1, .int x1), (2, .int x2), (3, .int x3), (4, .int x4), (5, .int x5)]) hx hb dX9_difference_38 hl (by decide) rfl (fun ls hl => ?_)
      refine lv_iload hx hb dX9_difference_40 (lv_at hl 5 rfl) ?_
      refine lv_iconst (v := (-1)) hx hb dX9_difference_42 (by decide) ?_
      refine lv_icmp_eq (tgt := 56) hx hb dX9_difference_43 (by decide) (fun c23 => ?_) (fun c23 => ?_)
      · have hw := hw.1 c23
        exact r9_difference_56 S hr hlocks hK hI hkb _ _ _ _ _ _ hw _ _ hM hS _ (lv_sub hl [1, 2, 3, 6, 0] rfl)
      · have hw := hw.2 c23
        refine lv_iload hx hb dX9_difference_46 (lv_at hl 0 rfl) ?_
        refine lv_iload hx hb dX9_difference_48 (lv_at hl 5 rfl) ?_
        refine lv_icmp_lt (tgt := 56) hx hb dX9_difference_50 (by decide) (fun c24 => ?_) (fun c24 => ?_)
        · have hw := hw.1 c24
          exact r9_difference_56 S hr hlocks hK hI hkb _ _ _ _ _ _ hw _ _ hM hS _ (lv_sub hl [1, 2, 3, 6, 0] rfl)
        · have hw := hw.2 c24
          refine lv_goto (tgt := 63) hx hb dX9_difference_53 (by decide) ?_
          exact r9_difference_63 S hr hlocks hK hI hkb _ _ _ _ _ _ _ hw _ _ hM hS _ (lv_sub hl [1, 2, 3, 4, 5, 6] rfl)
def w9_difference (post : VV → AA → Prop) (V : VV) (A : AA) (x1 x2 : Int32) : Prop :=
  ∃ n, w9_difference_8 post  n V A x1 x2 0 (-1) 0
set_option maxHeartbeats 4000000 in
set_option maxRecDepth 100000 in
theorem m9_difference (l : Launch) (g : MG) (V : VV) (A : AA) (x1 x2 : Int32) (post : VV → AA → Prop) (hI : HI g) (hw : w9_difference post V A x1 x2) : Met l yX9_difference (ws_ yX9_difference cX9_difference 7 none) rm9_difference (MPc g V A [.ref (mh g), .int x1, .int x2]) (MQv g post) 0 0 (HA g) := by
  refine Met.ofW (cc := cX9_difference) (maxL := 7) (ret := none) (by decide) rfl ?_
  intro p e s m args below meth c s₁ B hml hv
  obtain ⟨rfl, hK, hM⟩ := hv
  have hx := B.exec
  have hb := B.bytes
  have hr : meth.sig.returnType = none := B.returns
  have hts := atoms_spec (ws := ws_ yX9_difference cX9_difference 7 none) B.pre
  have hts : ∀ w ∈ lw_all, w.before _ s = true := fun w h => hts w (List.mem_cons_of_mem _ h)
  have hown : s.vm.findClass RX9 = some m.cls := findClass_of_methodNamed B.named
  have hlocks : meth.locks = false := B.notSynchronized
  have S : CallFix p m c cX9_difference 7 s _ lw_all RX9 := ⟨hx, hb, hml, hown, hts⟩
  have hS : va_S (HA g) s.heap s.heap [] := va_S.rf
  have hl := lv_entry ([.ref (mh g), .int x1, .int x2]) (n := 7) (Nat.le_of_ble_eq_true rfl)
  rw [lg_entry_eq]
  generalize (lg_sl ([.ref (mh g), .int x1, .int x2]) ++ List.replicate (7 - (lg_sl ([.ref (mh g), .int x1, .int x2])).length) Slot.unset).toArray = ls at hl ⊢
  have hl : lv_has ls 7 [(0, .ref (mh g)), (1, .int x1), (2, .int x2)] := hl
  unfold w9_difference at hw
  refine lv_iconst (v := 0) hx hb dX9_difference_0 (by decide) ?_
  refine lv_istore_n (lv' := [(3, .int 0), (0, .ref (mh g)), (1, .int x1), (2, .int x2)]) hx hb dX9_difference_1 rfl hl (by decide) rfl (fun ls hl => ?_)
  refine lv_iconst (v := (-1)) hx hb dX9_difference_2 (by decide) ?_
  refine lv_istore (lv' := [(4, .int (-1)), (3, .int 0), (0, .ref (mh g)), (1, .int x1), (2, .int x2)]) hx hb dX9_difference_3 hl (by decide) rfl (fun ls hl => ?_)
  refine lv_iconst (v := 0) hx hb dX9_difference_5 (by decide) ?_
  refine lv_istore (lv' := [(5, .int 0), (4, .int (-1)), (3, .int 0), (0, .ref (mh g)), (1, .int x1), (2, .int x2)]) hx hb dX9_difference_6 hl (by decide) rfl (fun ls hl => ?_)
  obtain ⟨n, hw⟩ := hw
  refine r9_difference_8 S hr hlocks hK hI  n _ _ _ _ _ _ _ hw _ _ hM hS _ (lv_sub hl [3, 4, 5, 2, 1, 0] rfl)
/-! FarTypewriterModel.sumOf(I)I -/
abbrev rm9_sumOf : Room := { frames := 0, cells := 0, slots := 0, locals := 0 }
def b9_sumOf_4 (post : Int32 → VV → AA → Prop)  (kb : VV → AA → Int32 → Int32 → Int32 → Prop) (V : VV) (A : AA) (x1 x2 x3 : Int32) : Prop :=
  (x1 ≤ x3 → post x2 V A) ∧ (¬ x1 ≤ x3 → vp_in x3 1100 ∧ (∀ y2_2 : Int32, y2_2 = ((31 * x2) + (A 33 x3.toNatClampNeg)) - ((31 * x2) + (A 33 x3.toNatClampNeg)) / 65521 * 65521 → (kb V A x1 y2_2 (x3 + 1))))
def w9_sumOf_4 (post : Int32 → VV → AA → Prop)  : Nat → VV → AA → Int32 → Int32 → Int32 → Prop
  | 0 => fun _ _ _ _ _ => False
  | n + 1 => b9_sumOf_4 post  (w9_sumOf_4 post  n)
set_option maxHeartbeats 4000000 in
set_option maxRecDepth 100000 in
theorem r9_sumOf_4 {p : Program} {l : Launch} {e : Env} {s : State} {m : MethodId} {args : Array Value} {below : List Frame} {meth : Method} {c : Code} {g : MG} (S : CallFix p m c cX9_sumOf 4 s args lw_all RX9) (hr : meth.sig.returnType = (some .int)) (hlocks : meth.locks = false) (hK : KM g s) (hI : HI g) {post : Int32 → VV → AA → Prop}  : ∀ n : Nat, ∀ (V : VV) (A : AA) (x1 x2 x3 : Int32), w9_sumOf_4 post  n V A x1 x2 x3 → ∀ (H : Heap) (locs : List Loc), HM g V A H → va_S (HA g) s.heap H locs → ∀ (ls : Array Slot), lv_has ls 4 [(0, .ref (mh g)), (1, .int x1), (2, .int x2), (3, .int x3)] → W p l e rm9_sumOf s m args below meth c H locs 0 0 (MQ below (MQi g post) args s 0 0 (HA g)) (F0 m 4 ls []) := by
  have hx := S.1
  have hb := S.2.1
  have hown := S.2.2.2.1
  have hts := S.2.2.2.2
  intro n
  induction n with
  | zero =>
    intro V A x1 x2 x3 hw
    exact hw.elim
  | succ n hkb =>
    intro V A x1 x2 x3 hw H locs hM hS ls hl
    unfold w9_sumOf_4 b9_sumOf_4 at hw
    refine lv_iload_n hx hb dX9_sumOf_4 rfl (lv_at hl 3 rfl) ?_
    refine lv_iload_n hx hb dX9_sumOf_5 rfl (lv_at hl 1 rfl) ?_
    refine lv_icmp_ge (tgt := 30) hx hb dX9_sumOf_6 (by decide) (fun c1 => ?_) (fun c1 => ?_)
    · have hw := hw.1 c1
      refine lv_iload_n hx hb dX9_sumOf_30 rfl (lv_at hl 2 rfl) ?_
      exact mo_iret S hr hlocks hM hS hw dX9_sumOf_31
    · have hw := hw.2 c1
      refine lv_bipush (v := 31) hx hb dX9_sumOf_9 (by decide) ?_
      refine lv_iload_n hx hb dX9_sumOf_11 rfl (lv_at hl 2 rfl) ?_
      refine lv_imul hx hb dX9_sumOf_12 ?_
      refine lv_aload_n hx hb dX9_sumOf_13 rfl (lv_at hl 0 rfl) ?_
      refine mo_geta S hK hM 33 (by decide) q812 dX9_sumOf_14 rfl ?_
      refine lv_iload_n hx hb dX9_sumOf_17 rfl (lv_at hl 3 rfl) ?_
      have hin := hw.1
      have hw := hw.2
      refine mo_ald S hK hM 33 rfl hin dX9_sumOf_18 ?_
      refine lv_iadd hx hb dX9_sumOf_19 ?_
      refine lv_ldc (v := 65521) hx hb hown (hts _ q1024) dX9_sumOf_20 ?_
      refine lv_irem hx hb dX9_sumOf_22 (by decide) ?_
      refine lv_topi (fun y2_2 ey2_2 => ?_)
      have hw := hw y2_2 ey2_2
      refine lv_istore_n (lv' := [(2, .int y2_2), (0, .ref (mh g)), (1, .int x1), (3, .int x3)]) hx hb dX9_sumOf_23 rfl hl (by decide) rfl (fun ls hl => ?_)
      refine lv_iinc (v := x3 + 1) (lv' := [(3, .int (x3 + 1)), (2, .int y2_2), (0, .ref (mh g)), (1, .int x1)]) hx hb dX9_sumOf_24 hl (k := 3) rfl rfl (by decide) rfl (fun ls hl => ?_)
      refine lv_goto (tgt := 4) hx hb dX9_sumOf_27 (by decide) ?_
      exact hkb _ _ _ _ _ hw _ _ hM hS _ (lv_sub hl [2, 3, 1, 0] rfl)
def w9_sumOf (post : Int32 → VV → AA → Prop) (V : VV) (A : AA) (x1 : Int32) : Prop :=
  ∃ n, w9_sumOf_4 post  n V A x1 1 0
set_option maxHeartbeats 4000000 in
set_option maxRecDepth 100000 in
theorem m9_sumOf (l : Launch) (g : MG) (V : VV) (A : AA) (x1 : Int32) (post : Int32 → VV → AA → Prop) (hI : HI g) (hw : w9_sumOf post V A x1) : Met l yX9_sumOf (ws_ yX9_sumOf cX9_sumOf 4 (some .int)) rm9_sumOf (MPc g V A [.ref (mh g), .int x1]) (MQi g post) 0 0 (HA g) := by
  refine Met.ofW (cc := cX9_sumOf) (maxL := 4) (ret := (some .int)) (by decide) rfl ?_
  intro p e s m args below meth c s₁ B hml hv
  obtain ⟨rfl, hK, hM⟩ := hv
  have hx := B.exec
  have hb := B.bytes
  have hr : meth.sig.returnType = (some .int) := B.returns
  have hts := atoms_spec (ws := ws_ yX9_sumOf cX9_sumOf 4 (some .int)) B.pre
  have hts : ∀ w ∈ lw_all, w.before _ s = true := fun w h => hts w (List.mem_cons_of_mem _ h)
  have hown : s.vm.findClass RX9 = some m.cls := findClass_of_methodNamed B.named
  have hlocks : meth.locks = false := B.notSynchronized
  have S : CallFix p m c cX9_sumOf 4 s _ lw_all RX9 := ⟨hx, hb, hml, hown, hts⟩
  have hS : va_S (HA g) s.heap s.heap [] := va_S.rf
  have hl := lv_entry ([.ref (mh g), .int x1]) (n := 4) (Nat.le_of_ble_eq_true rfl)
  rw [lg_entry_eq]
  generalize (lg_sl ([.ref (mh g), .int x1]) ++ List.replicate (4 - (lg_sl ([.ref (mh g), .int x1])).length) Slot.unset).toArray = ls at hl ⊢
  have hl : lv_has ls 4 [(0, .ref (mh g)), (1, .int x1)] := hl
  unfold w9_sumOf at hw
  refine lv_iconst (v := 1) hx hb dX9_sumOf_0 (by decide) ?_
  refine lv_istore_n (lv' := [(2, .int 1), (0, .ref (mh g)), (1, .int x1)]) hx hb dX9_sumOf_1 rfl hl (by decide) rfl (fun ls hl => ?_)
  refine lv_iconst (v := 0) hx hb dX9_sumOf_2 (by decide) ?_
  refine lv_istore_n (lv' := [(3, .int 0), (2, .int 1), (0, .ref (mh g)), (1, .int x1)]) hx hb dX9_sumOf_3 rfl hl (by decide) rfl (fun ls hl => ?_)
  obtain ⟨n, hw⟩ := hw
  refine r9_sumOf_4 S hr hlocks hK hI  n _ _ _ _ _ hw _ _ hM hS _ (lv_sub hl [2, 3, 1, 0] rfl)
/-! FarTypewriterModel.sends(I)V -/
abbrev rm9_sends : Room := { frames := 2, cells := 0, slots := 0, locals := 42 }
def b9_sends_71 (post : VV → AA → Prop)  (kb : VV → AA → Int32 → Int32 → Int32 → Prop) (V : VV) (A : AA) (x1 x2 x3 : Int32) : Prop :=
  ((V 34) ≤ x3 → vp_in x2 80 ∧ (vp_in x1 2 ∧ (vp_in x1 2 ∧ post V (au (au A 32 x2.toNatClampNeg (V 34)) 30 x1.toNatClampNeg (((au A 32 x2.toNatClampNeg (V 34)) 30 x1.toNatClampNeg) + 1))))) ∧ (¬ (V 34) ≤ x3 → vp_in x3 1100 ∧ (vp_in ((1100 * x2) + x3) 88000 ∧ kb V (au A 31 ((1100 * x2) + x3).toNatClampNeg (A 33 x3.toNatClampNeg)) x1 x2 (x3 + 1)))
def w9_sends_71 (post : VV → AA → Prop)  : Nat → VV → AA → Int32 → Int32 → Int32 → Prop
  | 0 => fun _ _ _ _ _ => False
  | n + 1 => b9_sends_71 post  (w9_sends_71 post  n)
set_option maxHeartbeats 4000000 in
set_option maxRecDepth 100000 in
theorem r9_sends_71 {p : Program} {l : Launch} {e : Env} {s : State} {m : MethodId} {args : Array Value} {below : List Frame} {meth : Method} {c : Code} {g : MG} (S : CallFix p m c cX9_sends 4 s args lw_all RX9) (hr : meth.sig.returnType = none) (hlocks : meth.locks = false) (hK : KM g s) (hI : HI g) {post : VV → AA → Prop}  : ∀ n : Nat, ∀ (V : VV) (A : AA) (x1 x2 x3 : Int32), w9_sends_71 post  n V A x1 x2 x3 → ∀ (H : Heap) (locs : List Loc), HM g V A H → va_S (HA g) s.heap H locs → ∀ (ls : Array Slot), lv_has ls 4 [(0, .ref (mh g)), (1, .int x1), (2, .int x2), (3, .int x3)] → W p l e rm9_sends s m args below meth c H locs 0 0 (MQ below (MQv g post) args s 0 0 (HA g)) (F0 m 71 ls []) := by
  have hx := S.1
  have hb := S.2.1
  have hown := S.2.2.2.1
  have hts := S.2.2.2.2
  intro n
  induction n with
  | zero =>
    intro V A x1 x2 x3 hw
    exact hw.elim
  | succ n hkb =>
    intro V A x1 x2 x3 hw H locs hM hS ls hl
    unfold w9_sends_71 b9_sends_71 at hw
    refine lv_iload_n hx hb dX9_sends_71 rfl (lv_at hl 3 rfl) ?_
    refine lv_aload_n hx hb dX9_sends_72 rfl (lv_at hl 0 rfl) ?_
    refine mo_geti S hK hM 34 (by decide) q813 dX9_sends_73 rfl ?_
    refine lv_icmp_ge (tgt := 103) hx hb dX9_sends_76 (by decide) (fun c9 => ?_) (fun c9 => ?_)
    · have hw := hw.1 c9
      refine lv_aload_n hx hb dX9_sends_103 rfl (lv_at hl 0 rfl) ?_
      refine mo_geta S hK hM 32 (by decide) q811 dX9_sends_104 rfl ?_
      refine lv_iload_n hx hb dX9_sends_107 rfl (lv_at hl 2 rfl) ?_
      refine lv_aload_n hx hb dX9_sends_108 rfl (lv_at hl 0 rfl) ?_
      refine mo_geti S hK hM 34 (by decide) q813 dX9_sends_109 rfl ?_
      have hin := hw.1
      have hw := hw.2
      refine mo_ast S hK hI hM hS 32 rfl hin dX9_sends_112 (fun H locs hM hS => ?_)
      refine lv_aload_n hx hb dX9_sends_113 rfl (lv_at hl 0 rfl) ?_
      refine mo_geta S hK hM 30 (by decide) q809 dX9_sends_114 rfl ?_
      refine lv_iload_n hx hb dX9_sends_117 rfl (lv_at hl 1 rfl) ?_
      refine lv_dup2_11 hx hb dX9_sends_118 rfl rfl ?_
      have hin := hw.1
      have hw := hw.2
      refine mo_ald S hK hM 30 rfl hin dX9_sends_119 ?_
      refine lv_iconst (v := 1) hx hb dX9_sends_120 (by decide) ?_
      refine lv_iadd hx hb dX9_sends_121 ?_
      have hin := hw.1
      have hw := hw.2
      refine mo_ast S hK hI hM hS 30 rfl hin dX9_sends_122 (fun H locs hM hS => ?_)
      exact mo_vret S hr hlocks hM hS hw dX9_sends_123
    · have hw := hw.2 c9
      refine lv_aload_n hx hb dX9_sends_79 rfl (lv_at hl 0 rfl) ?_
      refine mo_geta S hK hM 31 (by decide) q810 dX9_sends_80 rfl ?_
      refine lv_sipush (v := 1100) hx hb dX9_sends_83 (by decide) ?_
      refine lv_iload_n hx hb dX9_sends_86 rfl (lv_at hl 2 rfl) ?_
      refine lv_imul hx hb dX9_sends_87 ?_
      refine lv_iload_n hx hb dX9_sends_88 rfl (lv_at hl 3 rfl) ?_
      refine lv_iadd hx hb dX9_sends_89 ?_
      refine lv_aload_n hx hb dX9_sends_90 rfl (lv_at hl 0 rfl) ?_
      refine mo_geta S hK hM 33 (by decide) q812 dX9_sends_91 rfl ?_
      refine lv_iload_n hx hb dX9_sends_94 rfl (lv_at hl 3 rfl) ?_
      have hin := hw.1
      have hw := hw.2
      refine mo_ald S hK hM 33 rfl hin dX9_sends_95 ?_
      have hin := hw.1
      have hw := hw.2
      refine mo_ast S hK hI hM hS 31 rfl hin dX9_sends_96 (fun H locs hM hS => ?_)
      refine lv_iinc (v := x3 + 1) (lv' := [(3, .int (x3 + 1)), (0, .ref (mh g)), (1, .int x1), (2, .int x2)]) hx hb dX9_sends_97 hl (k := 3) rfl rfl (by decide) rfl (fun ls hl => ?_)
      refine lv_goto (tgt := 71) hx hb dX9_sends_100 (by decide) ?_
      exact hkb _ _ _ _ _ hw _ _ hM hS _ (lv_sub hl [1, 2, 3, 0] rfl)
def w9_sends (post : VV → AA → Prop) (V : VV) (A : AA) (x1 : Int32) : Prop :=
  w9_sumOf (fun (r3 : Int32) (V1 : VV) (A2 : AA) => w9_addsTwo (fun (V4 : VV) (A5 : AA) => vp_in 0 10 ∧ (vp_in 0 10 ∧ (vp_in 1 10 ∧ (vp_in 1 10 ∧ (vp_in x1 2 ∧ ((((au (au A5 29 (0 : Int32).toNatClampNeg ((A5 29 (0 : Int32).toNatClampNeg) + 1)) 29 (1 : Int32).toNatClampNeg (((au A5 29 (0 : Int32).toNatClampNeg ((A5 29 (0 : Int32).toNatClampNeg) + 1)) 29 (1 : Int32).toNatClampNeg) + (V4 34))) 30 x1.toNatClampNeg) = 40 → vp_in 2 10 ∧ (vp_in 2 10 ∧ post V4 (au (au (au A5 29 (0 : Int32).toNatClampNeg ((A5 29 (0 : Int32).toNatClampNeg) + 1)) 29 (1 : Int32).toNatClampNeg (((au A5 29 (0 : Int32).toNatClampNeg ((A5 29 (0 : Int32).toNatClampNeg) + 1)) 29 (1 : Int32).toNatClampNeg) + (V4 34))) 29 (2 : Int32).toNatClampNeg (((au (au A5 29 (0 : Int32).toNatClampNeg ((A5 29 (0 : Int32).toNatClampNeg) + 1)) 29 (1 : Int32).toNatClampNeg (((au A5 29 (0 : Int32).toNatClampNeg ((A5 29 (0 : Int32).toNatClampNeg) + 1)) 29 (1 : Int32).toNatClampNeg) + (V4 34))) 29 (2 : Int32).toNatClampNeg) + 1)))) ∧ (¬ ((au (au A5 29 (0 : Int32).toNatClampNeg ((A5 29 (0 : Int32).toNatClampNeg) + 1)) 29 (1 : Int32).toNatClampNeg (((au A5 29 (0 : Int32).toNatClampNeg ((A5 29 (0 : Int32).toNatClampNeg) + 1)) 29 (1 : Int32).toNatClampNeg) + (V4 34))) 30 x1.toNatClampNeg) = 40 → vp_in x1 2 ∧ (∀ y2_8 : Int32, y2_8 = (40 * x1) + ((au (au A5 29 (0 : Int32).toNatClampNeg ((A5 29 (0 : Int32).toNatClampNeg) + 1)) 29 (1 : Int32).toNatClampNeg (((au A5 29 (0 : Int32).toNatClampNeg ((A5 29 (0 : Int32).toNatClampNeg) + 1)) 29 (1 : Int32).toNatClampNeg) + (V4 34))) 30 x1.toNatClampNeg) → (∃ n, w9_sends_71 post  n V4 (au (au A5 29 (0 : Int32).toNatClampNeg ((A5 29 (0 : Int32).toNatClampNeg) + 1)) 29 (1 : Int32).toNatClampNeg (((au A5 29 (0 : Int32).toNatClampNeg ((A5 29 (0 : Int32).toNatClampNeg) + 1)) 29 (1 : Int32).toNatClampNeg) + (V4 34))) x1 y2_8 0))))))))) V1 A2 r3) V A (V 34)
set_option maxHeartbeats 4000000 in
set_option maxRecDepth 100000 in
theorem m9_sends (l : Launch) (g : MG) (V : VV) (A : AA) (x1 : Int32) (post : VV → AA → Prop) (hI : HI g) (hw : w9_sends post V A x1) : Met l yX9_sends (ws_ yX9_sends cX9_sends 4 none) rm9_sends (MPc g V A [.ref (mh g), .int x1]) (MQv g post) 0 0 (HA g) := by
  refine Met.ofW (cc := cX9_sends) (maxL := 4) (ret := none) (by decide) rfl ?_
  intro p e s m args below meth c s₁ B hml hv
  obtain ⟨rfl, hK, hM⟩ := hv
  have hx := B.exec
  have hb := B.bytes
  have hr : meth.sig.returnType = none := B.returns
  have hts := atoms_spec (ws := ws_ yX9_sends cX9_sends 4 none) B.pre
  have hts : ∀ w ∈ lw_all, w.before _ s = true := fun w h => hts w (List.mem_cons_of_mem _ h)
  have hown : s.vm.findClass RX9 = some m.cls := findClass_of_methodNamed B.named
  have hlocks : meth.locks = false := B.notSynchronized
  have S : CallFix p m c cX9_sends 4 s _ lw_all RX9 := ⟨hx, hb, hml, hown, hts⟩
  have hS : va_S (HA g) s.heap s.heap [] := va_S.rf
  have hl := lv_entry ([.ref (mh g), .int x1]) (n := 4) (Nat.le_of_ble_eq_true rfl)
  rw [lg_entry_eq]
  generalize (lg_sl ([.ref (mh g), .int x1]) ++ List.replicate (4 - (lg_sl ([.ref (mh g), .int x1])).length) Slot.unset).toArray = ls at hl ⊢
  have hl : lv_has ls 4 [(0, .ref (mh g)), (1, .int x1)] := hl
  unfold w9_sends at hw
  refine lv_aload_n hx hb dX9_sends_0 rfl (lv_at hl 0 rfl) ?_
  refine lv_aload_n hx hb dX9_sends_1 rfl (lv_at hl 0 rfl) ?_
  refine lv_aload_n hx hb dX9_sends_2 rfl (lv_at hl 0 rfl) ?_
  refine mo_geti S hK hM 34 (by decide) q813 dX9_sends_3 rfl ?_
  refine mo_calli (As := [.int (V 34)]) S hK hM hS (m9_sumOf l g V A (V 34) _ hI hw) (cwV 1 hts (lw_V q1020 q1022 qs33 q64 q1023) rfl rfl rfl (by decide +kernel) ⟨Nat.le_of_ble_eq_true rfl, Nat.le_of_ble_eq_true rfl⟩) rfl hl.1 rfl (lv_room (Nat.le_of_ble_eq_true rfl)) dX9_sends_6 ⟨Nat.zero_le _, Nat.zero_le _⟩ (fun r3 V1 A2 H locs hw hM hS => ?_)
  refine mo_callv (As := [.int r3]) S hK hM hS (m9_addsTwo l g V1 A2 r3 _ hI hw) (cwV 1 hts (lw_V q992 q994 qs26 q64 q995) rfl rfl rfl (by decide +kernel) ⟨Nat.le_of_ble_eq_true rfl, Nat.le_of_ble_eq_true rfl⟩) rfl hl.1 rfl (lv_room (Nat.le_of_ble_eq_true rfl)) dX9_sends_9 ⟨Nat.zero_le _, Nat.zero_le _⟩ (fun V4 A5 H locs hw hM hS => ?_)
  refine lv_aload_n hx hb dX9_sends_12 rfl (lv_at hl 0 rfl) ?_
  refine mo_geta S hK hM 29 (by decide) q808 dX9_sends_13 rfl ?_
  refine lv_iconst (v := 0) hx hb dX9_sends_16 (by decide) ?_
  refine lv_dup2_11 hx hb dX9_sends_17 rfl rfl ?_
  have hin := hw.1
  have hw := hw.2
  refine mo_ald S hK hM 29 rfl hin dX9_sends_18 ?_
  refine lv_iconst (v := 1) hx hb dX9_sends_19 (by decide) ?_
  refine lv_iadd hx hb dX9_sends_20 ?_
  have hin := hw.1
  have hw := hw.2
  refine mo_ast S hK hI hM hS 29 rfl hin dX9_sends_21 (fun H locs hM hS => ?_)
  refine lv_aload_n hx hb dX9_sends_22 rfl (lv_at hl 0 rfl) ?_
  refine mo_geta S hK hM 29 (by decide) q808 dX9_sends_23 rfl ?_
  refine lv_iconst (v := 1) hx hb dX9_sends_26 (by decide) ?_
  refine lv_dup2_11 hx hb dX9_sends_27 rfl rfl ?_
  have hin := hw.1
  have hw := hw.2
  refine mo_ald S hK hM 29 rfl hin dX9_sends_28 ?_
  refine lv_aload_n hx hb dX9_sends_29 rfl (lv_at hl 0 rfl) ?_
  refine mo_geti S hK hM 34 (by decide) q813 dX9_sends_30 rfl ?_
  refine lv_iadd hx hb dX9_sends_33 ?_
  have hin := hw.1
  have hw := hw.2
  refine mo_ast S hK hI hM hS 29 rfl hin dX9_sends_34 (fun H locs hM hS => ?_)
  refine lv_aload_n hx hb dX9_sends_35 rfl (lv_at hl 0 rfl) ?_
  refine mo_geta S hK hM 30 (by decide) q809 dX9_sends_36 rfl ?_
  refine lv_iload_n hx hb dX9_sends_39 rfl (lv_at hl 1 rfl) ?_
  have hin := hw.1
  have hw := hw.2
  refine mo_ald S hK hM 30 rfl hin dX9_sends_40 ?_
  refine lv_bipush (v := 40) hx hb dX9_sends_41 (by decide) ?_
  refine lv_icmp_ne (tgt := 57) hx hb dX9_sends_43 (by decide) (fun c7 => ?_) (fun c7 => ?_)
  · have hw := hw.2 c7
    refine lv_bipush (v := 40) hx hb dX9_sends_57 (by decide) ?_
    refine lv_iload_n hx hb dX9_sends_59 rfl (lv_at hl 1 rfl) ?_
    refine lv_imul hx hb dX9_sends_60 ?_
    refine lv_aload_n hx hb dX9_sends_61 rfl (lv_at hl 0 rfl) ?_
    refine mo_geta S hK hM 30 (by decide) q809 dX9_sends_62 rfl ?_
    refine lv_iload_n hx hb dX9_sends_65 rfl (lv_at hl 1 rfl) ?_
    have hin := hw.1
    have hw := hw.2
    refine mo_ald S hK hM 30 rfl hin dX9_sends_66 ?_
    refine lv_iadd hx hb dX9_sends_67 ?_
    refine lv_topi (fun y2_8 ey2_8 => ?_)
    have hw := hw y2_8 ey2_8
    refine lv_istore_n (lv' := [(2, .int y2_8), (0, .ref (mh g)), (1, .int x1)]) hx hb dX9_sends_68 rfl hl (by decide) rfl (fun ls hl => ?_)
    refine lv_iconst (v := 0) hx hb dX9_sends_69 (by decide) ?_
    refine lv_istore_n (lv' := [(3, .int 0), (2, .int y2_8), (0, .ref (mh g)), (1, .int x1)]) hx hb dX9_sends_70 rfl hl (by decide) rfl (fun ls hl => ?_)
    obtain ⟨n, hw⟩ := hw
    refine r9_sends_71 S hr hlocks hK hI  n _ _ _ _ _ hw _ _ hM hS _ (lv_sub hl [2, 3, 1, 0] rfl)
  · have hw := hw.1 c7
    refine lv_aload_n hx hb dX9_sends_46 rfl (lv_at hl 0 rfl) ?_
    refine mo_geta S hK hM 29 (by decide) q808 dX9_sends_47 rfl ?_
    refine lv_iconst (v := 2) hx hb dX9_sends_50 (by decide) ?_
    refine lv_dup2_11 hx hb dX9_sends_51 rfl rfl ?_
    have hin := hw.1
    have hw := hw.2
    refine mo_ald S hK hM 29 rfl hin dX9_sends_52 ?_
    refine lv_iconst (v := 1) hx hb dX9_sends_53 (by decide) ?_
    refine lv_iadd hx hb dX9_sends_54 ?_
    have hin := hw.1
    have hw := hw.2
    refine mo_ast S hK hI hM hS 29 rfl hin dX9_sends_55 (fun H locs hM hS => ?_)
    exact mo_vret S hr hlocks hM hS hw dX9_sends_56
