/-! FarTypewriterModel.goBelow(III)I -/
abbrev rm9_goBelow : Room := { frames := 1, cells := 0, slots := 0, locals := 23 }
def b9_goBelow_3 (post : Int32 → VV → AA → Prop) (k28 : VV → AA → Int32 → Int32 → Int32 → Prop) (kb : VV → AA → Int32 → Int32 → Int32 → Int32 → Prop) (V : VV) (A : AA) (x1 x2 x3 x4 : Int32) : Prop :=
  (x2 ≤ x4 → k28 V A x1 x2 x4) ∧ (¬ x2 ≤ x4 → vp_in (x1 + x4) 69 ∧ ((x3 ≤ (A 4 (x1 + x4).toNatClampNeg) → k28 V A x1 x2 x4) ∧ (¬ x3 ≤ (A 4 (x1 + x4).toNatClampNeg) → kb V A x1 x2 x3 (x4 + 1))))
def w9_goBelow_3 (post : Int32 → VV → AA → Prop) (k28 : VV → AA → Int32 → Int32 → Int32 → Prop) : Nat → VV → AA → Int32 → Int32 → Int32 → Int32 → Prop
  | 0 => fun _ _ _ _ _ _ => False
  | n + 1 => b9_goBelow_3 post k28 (w9_goBelow_3 post k28 n)
set_option maxHeartbeats 4000000 in
set_option maxRecDepth 100000 in
theorem r9_goBelow_3 {p : Program} {l : Launch} {e : Env} {s : State} {m : MethodId} {args : Array Value} {below : List Frame} {meth : Method} {c : Code} {g : MG} (S : CallFix p m c cX9_goBelow 6 s args lw_all RX9) (hr : meth.sig.returnType = (some .int)) (hlocks : meth.locks = false) (hK : KM g s) (hI : HI g) {post : Int32 → VV → AA → Prop} {k28 : VV → AA → Int32 → Int32 → Int32 → Prop} (hk28 : ∀ (V : VV) (A : AA) (x1 x2 x4 : Int32), k28 V A x1 x2 x4 → ∀ (H : Heap) (locs : List Loc), HM g V A H → va_S (HA g) s.heap H locs → ∀ (ls : Array Slot), lv_has ls 6 [(0, .ref (mh g)), (1, .int x1), (2, .int x2), (4, .int x4)] → W p l e rm9_goBelow s m args below meth c H locs 0 0 (MQ below (MQi g post) args s 0 0 (HA g)) (F0 m 28 ls [])) : ∀ n : Nat, ∀ (V : VV) (A : AA) (x1 x2 x3 x4 : Int32), w9_goBelow_3 post k28 n V A x1 x2 x3 x4 → ∀ (H : Heap) (locs : List Loc), HM g V A H → va_S (HA g) s.heap H locs → ∀ (ls : Array Slot), lv_has ls 6 [(0, .ref (mh g)), (1, .int x1), (2, .int x2), (3, .int x3), (4, .int x4)] → W p l e rm9_goBelow s m args below meth c H locs 0 0 (MQ below (MQi g post) args s 0 0 (HA g)) (F0 m 3 ls []) := by
  have hx := S.1
  have hb := S.2.1
  have hown := S.2.2.2.1
  have hts := S.2.2.2.2
  intro n
  induction n with
  | zero =>
    intro V A x1 x2 x3 x4 hw
    exact hw.elim
  | succ n hkb =>
    intro V A x1 x2 x3 x4 hw H locs hM hS ls hl
    unfold w9_goBelow_3 b9_goBelow_3 at hw
    refine lv_iload hx hb dX9_goBelow_3 (lv_at hl 4 rfl) ?_
    refine lv_iload_n hx hb dX9_goBelow_5 rfl (lv_at hl 2 rfl) ?_
    refine lv_icmp_ge (tgt := 28) hx hb dX9_goBelow_6 (by decide) (fun c1 => ?_) (fun c1 => ?_)
    · have hw := hw.1 c1
      exact hk28 _ _ _ _ _ hw _ _ hM hS _ (lv_sub hl [0, 1, 2, 4] rfl)
    · have hw := hw.2 c1
      refine lv_aload_n hx hb dX9_goBelow_9 rfl (lv_at hl 0 rfl) ?_
      refine mo_geta S hK hM 4 (by decide) q783 dX9_goBelow_10 rfl ?_
      refine lv_iload_n hx hb dX9_goBelow_13 rfl (lv_at hl 1 rfl) ?_
      refine lv_iload hx hb dX9_goBelow_14 (lv_at hl 4 rfl) ?_
      refine lv_iadd hx hb dX9_goBelow_16 ?_
      have hin := hw.1
      have hw := hw.2
      refine mo_ald S hK hM 4 rfl hin dX9_goBelow_17 ?_
      refine lv_iload_n hx hb dX9_goBelow_18 rfl (lv_at hl 3 rfl) ?_
      refine lv_icmp_ge (tgt := 28) hx hb dX9_goBelow_19 (by decide) (fun c2 => ?_) (fun c2 => ?_)
      · have hw := hw.1 c2
        exact hk28 _ _ _ _ _ hw _ _ hM hS _ (lv_sub hl [0, 1, 2, 4] rfl)
      · have hw := hw.2 c2
        refine lv_iinc (v := x4 + 1) (lv' := [(4, .int (x4 + 1)), (0, .ref (mh g)), (1, .int x1), (2, .int x2), (3, .int x3)]) hx hb dX9_goBelow_22 hl (k := 4) rfl rfl (by decide) rfl (fun ls hl => ?_)
        refine lv_goto (tgt := 3) hx hb dX9_goBelow_25 (by decide) ?_
        exact hkb _ _ _ _ _ _ hw _ _ hM hS _ (lv_sub hl [1, 2, 3, 4, 0] rfl)
def b9_goBelow_31 (post : Int32 → VV → AA → Prop)  (kb : VV → AA → Int32 → Int32 → Int32 → Int32 → Prop) (V : VV) (A : AA) (x1 x2 x4 x5 : Int32) : Prop :=
  (x4 ≤ 0 → post (x2 - x4) V A) ∧ (¬ x4 ≤ 0 → (x2 ≤ (x5 + x4) → post (x2 - x4) V A) ∧ (¬ x2 ≤ (x5 + x4) → w9_copies (fun (V10 : VV) (A11 : AA) => kb V10 A11 x1 x2 x4 (x5 + 1)) V A ((x1 + x5) + x4) (x1 + x5)))
def w9_goBelow_31 (post : Int32 → VV → AA → Prop)  : Nat → VV → AA → Int32 → Int32 → Int32 → Int32 → Prop
  | 0 => fun _ _ _ _ _ _ => False
  | n + 1 => b9_goBelow_31 post  (w9_goBelow_31 post  n)
set_option maxHeartbeats 4000000 in
set_option maxRecDepth 100000 in
theorem r9_goBelow_31 {p : Program} {l : Launch} {e : Env} {s : State} {m : MethodId} {args : Array Value} {below : List Frame} {meth : Method} {c : Code} {g : MG} (S : CallFix p m c cX9_goBelow 6 s args lw_all RX9) (hr : meth.sig.returnType = (some .int)) (hlocks : meth.locks = false) (hK : KM g s) (hI : HI g) {post : Int32 → VV → AA → Prop}  : ∀ n : Nat, ∀ (V : VV) (A : AA) (x1 x2 x4 x5 : Int32), w9_goBelow_31 post  n V A x1 x2 x4 x5 → ∀ (H : Heap) (locs : List Loc), HM g V A H → va_S (HA g) s.heap H locs → ∀ (ls : Array Slot), lv_has ls 6 [(0, .ref (mh g)), (1, .int x1), (2, .int x2), (4, .int x4), (5, .int x5)] → W p l e rm9_goBelow s m args below meth c H locs 0 0 (MQ below (MQi g post) args s 0 0 (HA g)) (F0 m 31 ls []) := by
  have hx := S.1
  have hb := S.2.1
  have hown := S.2.2.2.1
  have hts := S.2.2.2.2
  intro n
  induction n with
  | zero =>
    intro V A x1 x2 x4 x5 hw
    exact hw.elim
  | succ n hkb =>
    intro V A x1 x2 x4 x5 hw H locs hM hS ls hl
    unfold w9_goBelow_31 b9_goBelow_31 at hw
    refine lv_iload hx hb dX9_goBelow_31 (lv_at hl 3 rfl) ?_
    refine lv_if_le (tgt := 66) hx hb dX9_goBelow_33 (by decide) (fun c8 => ?_) (fun c8 => ?_)
    · have hw := hw.1 c8
      refine lv_iload_n hx hb dX9_goBelow_66 rfl (lv_at hl 2 rfl) ?_
      refine lv_iload hx hb dX9_goBelow_67 (lv_at hl 3 rfl) ?_
      refine lv_isub hx hb dX9_goBelow_69 ?_
      exact mo_iret S hr hlocks hM hS hw dX9_goBelow_70
    · have hw := hw.2 c8
      refine lv_iload hx hb dX9_goBelow_36 (lv_at hl 4 rfl) ?_
      refine lv_iload hx hb dX9_goBelow_38 (lv_at hl 3 rfl) ?_
      refine lv_iadd hx hb dX9_goBelow_40 ?_
      refine lv_iload_n hx hb dX9_goBelow_41 rfl (lv_at hl 2 rfl) ?_
      refine lv_icmp_ge (tgt := 66) hx hb dX9_goBelow_42 (by decide) (fun c9 => ?_) (fun c9 => ?_)
      · have hw := hw.1 c9
        refine lv_iload_n hx hb dX9_goBelow_66 rfl (lv_at hl 2 rfl) ?_
        refine lv_iload hx hb dX9_goBelow_67 (lv_at hl 3 rfl) ?_
        refine lv_isub hx hb dX9_goBelow_69 ?_
        exact mo_iret S hr hlocks hM hS hw dX9_goBelow_70
      · have hw := hw.2 c9
        refine lv_aload_n hx hb dX9_goBelow_45 rfl (lv_at hl 0 rfl) ?_
        refine lv_iload_n hx hb dX9_goBelow_46 rfl (lv_at hl 1 rfl) ?_
        refine lv_iload hx hb dX9_goBelow_47 (lv_at hl 4 rfl) ?_
        refine lv_iadd hx hb dX9_goBelow_49 ?_
        refine lv_iload hx hb dX9_goBelow_50 (lv_at hl 3 rfl) ?_
        refine lv_iadd hx hb dX9_goBelow_52 ?_
        refine lv_iload_n hx hb dX9_goBelow_53 rfl (lv_at hl 1 rfl) ?_
        refine lv_iload hx hb dX9_goBelow_54 (lv_at hl 4 rfl) ?_
        refine lv_iadd hx hb dX9_goBelow_56 ?_
        refine mo_callv (As := [.int ((x1 + x5) + x4), .int (x1 + x5)]) S hK hM hS (m9_copies l g V A ((x1 + x5) + x4) (x1 + x5) _ hI hw) (cwV 2 hts (lw_V q984 q986 qs24 q64 q987) rfl rfl rfl (by decide +kernel) ⟨Nat.le_of_ble_eq_true rfl, Nat.le_of_ble_eq_true rfl⟩) rfl hl.1 rfl (lv_room (Nat.le_of_ble_eq_true rfl)) dX9_goBelow_57 ⟨Nat.zero_le _, Nat.zero_le _⟩ (fun V10 A11 H locs hw hM hS => ?_)
        refine lv_iinc (v := x5 + 1) (lv' := [(5, .int (x5 + 1)), (0, .ref (mh g)), (1, .int x1), (2, .int x2), (4, .int x4)]) hx hb dX9_goBelow_60 hl (k := 4) rfl rfl (by decide) rfl (fun ls hl => ?_)
        refine lv_goto (tgt := 31) hx hb dX9_goBelow_63 (by decide) ?_
        exact hkb _ _ _ _ _ _ hw _ _ hM hS _ (lv_sub hl [1, 2, 3, 4, 0] rfl)
def w9_goBelow_28 (post : Int32 → VV → AA → Prop)  (V : VV) (A : AA) (x1 x2 x4 : Int32) : Prop :=
  ∃ n, w9_goBelow_31 post  n V A x1 x2 x4 0
set_option maxHeartbeats 4000000 in
set_option maxRecDepth 100000 in
theorem r9_goBelow_28 {p : Program} {l : Launch} {e : Env} {s : State} {m : MethodId} {args : Array Value} {below : List Frame} {meth : Method} {c : Code} {g : MG} (S : CallFix p m c cX9_goBelow 6 s args lw_all RX9) (hr : meth.sig.returnType = (some .int)) (hlocks : meth.locks = false) (hK : KM g s) (hI : HI g) {post : Int32 → VV → AA → Prop}  : ∀ (V : VV) (A : AA) (x1 x2 x4 : Int32), w9_goBelow_28 post  V A x1 x2 x4 → ∀ (H : Heap) (locs : List Loc), HM g V A H → va_S (HA g) s.heap H locs → ∀ (ls : Array Slot), lv_has ls 6 [(0, .ref (mh g)), (1, .int x1), (2, .int x2), (4, .int x4)] → W p l e rm9_goBelow s m args below meth c H locs 0 0 (MQ below (MQi g post) args s 0 0 (HA g)) (F0 m 28 ls []) := by
  have hx := S.1
  have hb := S.2.1
  have hown := S.2.2.2.1
  have hts := S.2.2.2.2
  intro V A x1 x2 x4 hw H locs hM hS ls hl
  unfold w9_goBelow_28 at hw
  refine lv_iconst (v := 0) hx hb dX9_goBelow_28 (by decide) ?_
  refine lv_istore (lv' := [(5, .int 0), (0, .ref (mh g)), (1, .int x1), (2, .int x2), (4, .int x4)]) hx hb dX9_goBelow_29 hl (by decide) rfl (fun ls hl => ?_)
  obtain ⟨n, hw⟩ := hw
  refine r9_goBelow_31 S hr hlocks hK hI  n _ _ _ _ _ _ hw _ _ hM hS _ (lv_sub hl [1, 2, 3, 4, 0] rfl)
def w9_goBelow (post : Int32 → VV → AA → Prop) (V : VV) (A : AA) (x1 x2 x3 : Int32) : Prop :=
  ∃ n, w9_goBelow_3 post (fun (V6 : VV) (A7 : AA) (x1_3 x2_4 x4_5 : Int32) => w9_goBelow_28 post V6 A7 x1_3 x2_4 x4_5) n V A x1 x2 x3 0
set_option maxHeartbeats 4000000 in
set_option maxRecDepth 100000 in
theorem m9_goBelow (l : Launch) (g : MG) (V : VV) (A : AA) (x1 x2 x3 : Int32) (post : Int32 → VV → AA → Prop) (hI : HI g) (hw : w9_goBelow post V A x1 x2 x3) : Met l yX9_goBelow (ws_ yX9_goBelow cX9_goBelow 6 (some .int)) rm9_goBelow (MPc g V A [.ref (mh g), .int x1, .int x2, .int x3]) (MQi g post) 0 0 (HA g) := by
  refine Met.ofW (cc := cX9_goBelow) (maxL := 6) (ret := (some .int)) (by decide) rfl ?_
  intro p e s m args below meth c s₁ B hml hv
  obtain ⟨rfl, hK, hM⟩ := hv
  have hx := B.exec
  have hb := B.bytes
  have hr : meth.sig.returnType = (some .int) := B.returns
  have hts := atoms_spec (ws := ws_ yX9_goBelow cX9_goBelow 6 (some .int)) B.pre
  have hts : ∀ w ∈ lw_all, w.before _ s = true := fun w h => hts w (List.mem_cons_of_mem _ h)
  have hown : s.vm.findClass RX9 = some m.cls := findClass_of_methodNamed B.named
  have hlocks : meth.locks = false := B.notSynchronized
  have S : CallFix p m c cX9_goBelow 6 s _ lw_all RX9 := ⟨hx, hb, hml, hown, hts⟩
  have hS : va_S (HA g) s.heap s.heap [] := va_S.rf
  have hl := lv_entry ([.ref (mh g), .int x1, .int x2, .int x3]) (n := 6) (Nat.le_of_ble_eq_true rfl)
  rw [lg_entry_eq]
  generalize (lg_sl ([.ref (mh g), .int x1, .int x2, .int x3]) ++ List.replicate (6 - (lg_sl ([.ref (mh g), .int x1, .int x2, .int x3])).length) Slot.unset).toArray = ls at hl ⊢
  have hl : lv_has ls 6 [(0, .ref (mh g)), (1, .int x1), (2, .int x2), (3, .int x3)] := hl
  unfold w9_goBelow at hw
  refine lv_iconst (v := 0) hx hb dX9_goBelow_0 (by decide) ?_
  refine lv_istore (lv' := [(4, .int 0), (0, .ref (mh g)), (1, .int x1), (2, .int x2), (3, .int x3)]) hx hb dX9_goBelow_1 hl (by decide) rfl (fun ls hl => ?_)
  obtain ⟨n, hw⟩ := hw
  refine r9_goBelow_3 S hr hlocks hK hI (fun V6 A7 x1_3 x2_4 x4_5 hw H locs hM hS ls hl => ?_) n _ _ _ _ _ _ hw _ _ hM hS _ (lv_sub hl [1, 2, 3, 4, 0] rfl)
  exact r9_goBelow_28 S hr hlocks hK hI  _ _ _ _ _ hw _ _ hM hS _ (lv_sub hl [0, 1, 2, 3] rfl)
/-! FarTypewriterModel.byFar()V -/
abbrev rm9_byFar : Room := { frames := 7, cells := 0, slots := 0, locals := 152 }
def b9_byFar_46 (post : VV → AA → Prop) (k72 : VV → AA → Int32 → Int32 → Prop) (kb : VV → AA → Int32 → Int32 → Int32 → Prop) (V : VV) (A : AA) (x1 x2 x3 : Int32) : Prop :=
  (x2 ≤ x3 → k72 V A x1 x2) ∧ (¬ x2 ≤ x3 → vp_in ((8 + x3) - x1) 1100 ∧ w9_takesKey (fun (V10 : VV) (A11 : AA) => kb V10 A11 x1 x2 (x3 + 1)) V A (A 33 ((8 + x3) - x1).toNatClampNeg))
def w9_byFar_46 (post : VV → AA → Prop) (k72 : VV → AA → Int32 → Int32 → Prop) : Nat → VV → AA → Int32 → Int32 → Int32 → Prop
  | 0 => fun _ _ _ _ _ => False
  | n + 1 => b9_byFar_46 post k72 (w9_byFar_46 post k72 n)
set_option maxHeartbeats 4000000 in
set_option maxRecDepth 100000 in
theorem r9_byFar_46 {p : Program} {l : Launch} {e : Env} {s : State} {m : MethodId} {args : Array Value} {below : List Frame} {meth : Method} {c : Code} {g : MG} (S : CallFix p m c cX9_byFar 4 s args lw_all RX9) (hr : meth.sig.returnType = none) (hlocks : meth.locks = false) (hK : KM g s) (hI : HI g) {post : VV → AA → Prop} {k72 : VV → AA → Int32 → Int32 → Prop} (hk72 : ∀ (V : VV) (A : AA) (x1 x2 : Int32), k72 V A x1 x2 → ∀ (H : Heap) (locs : List Loc), HM g V A H → va_S (HA g) s.heap H locs → ∀ (ls : Array Slot), lv_has ls 4 [(0, .ref (mh g)), (1, .int x1), (2, .int x2)] → W p l e rm9_byFar s m args below meth c H locs 0 0 (MQ below (MQv g post) args s 0 0 (HA g)) (F0 m 72 ls [])) : ∀ n : Nat, ∀ (V : VV) (A : AA) (x1 x2 x3 : Int32), w9_byFar_46 post k72 n V A x1 x2 x3 → ∀ (H : Heap) (locs : List Loc), HM g V A H → va_S (HA g) s.heap H locs → ∀ (ls : Array Slot), lv_has ls 4 [(0, .ref (mh g)), (1, .int x1), (2, .int x2), (3, .int x3)] → W p l e rm9_byFar s m args below meth c H locs 0 0 (MQ below (MQv g post) args s 0 0 (HA g)) (F0 m 46 ls []) := by
  have hx := S.1
  have hb := S.2.1
  have hown := S.2.2.2.1
  have hts := S.2.2.2.2
  intro n
  induction n with
  | zero =>
    intro V A x1 x2 x3 hw
    exact hw.elim
  | succ n hkb =>
    intro V A x1 x2 x3 hw H locs hM hS ls hl
    unfold w9_byFar_46 b9_byFar_46 at hw
    refine lv_iload_n hx hb dX9_byFar_46 rfl (lv_at hl 3 rfl) ?_
    refine lv_iload_n hx hb dX9_byFar_47 rfl (lv_at hl 2 rfl) ?_
    refine lv_icmp_ge (tgt := 72) hx hb dX9_byFar_48 (by decide) (fun c9 => ?_) (fun c9 => ?_)
    · have hw := hw.1 c9
      exact hk72 _ _ _ _ hw _ _ hM hS _ (lv_sub hl [0, 1, 2] rfl)
    · have hw := hw.2 c9
      refine lv_aload_n hx hb dX9_byFar_51 rfl (lv_at hl 0 rfl) ?_
      refine lv_aload_n hx hb dX9_byFar_52 rfl (lv_at hl 0 rfl) ?_
      refine mo_geta S hK hM 33 (by decide) q812 dX9_byFar_53 rfl ?_
      refine lv_bipush (v := 8) hx hb dX9_byFar_56 (by decide) ?_
      refine lv_iload_n hx hb dX9_byFar_58 rfl (lv_at hl 3 rfl) ?_
      refine lv_iadd hx hb dX9_byFar_59 ?_
      refine lv_iload_n hx hb dX9_byFar_60 rfl (lv_at hl 1 rfl) ?_
      refine lv_isub hx hb dX9_byFar_61 ?_
      have hin := hw.1
      have hw := hw.2
      refine mo_ald S hK hM 33 rfl hin dX9_byFar_62 ?_
      refine mo_callv (As := [.int (A 33 ((8 + x3) - x1).toNatClampNeg)]) S hK hM hS (m9_takesKey l g V A (A 33 ((8 + x3) - x1).toNatClampNeg) _ hI hw) (cwV 1 hts (lw_V q1061 q1063 qs42 q64 q1064) rfl rfl rfl (by decide +kernel) ⟨Nat.le_of_ble_eq_true rfl, Nat.le_of_ble_eq_true rfl⟩) rfl hl.1 rfl (lv_room (Nat.le_of_ble_eq_true rfl)) dX9_byFar_63 ⟨Nat.zero_le _, Nat.zero_le _⟩ (fun V10 A11 H locs hw hM hS => ?_)
      refine lv_iinc (v := x3 + 1) (lv' := [(3, .int (x3 + 1)), (0, .ref (mh g)), (1, .int x1), (2, .int x2)]) hx hb dX9_byFar_66 hl (k := 3) rfl rfl (by decide) rfl (fun ls hl => ?_)
      refine lv_goto (tgt := 46) hx hb dX9_byFar_69 (by decide) ?_
      exact hkb _ _ _ _ _ hw _ _ hM hS _ (lv_sub hl [1, 2, 3, 0] rfl)
def w9_byFar_159 (post : VV → AA → Prop)  (V : VV) (A : AA) (x1 : Int32) : Prop :=
  ((V 12) ≤ x1 → post V A) ∧ (¬ (V 12) ≤ x1 → post (vu V 17 1) A)
set_option maxHeartbeats 4000000 in
set_option maxRecDepth 100000 in
theorem r9_byFar_159 {p : Program} {l : Launch} {e : Env} {s : State} {m : MethodId} {args : Array Value} {below : List Frame} {meth : Method} {c : Code} {g : MG} (S : CallFix p m c cX9_byFar 4 s args lw_all RX9) (hr : meth.sig.returnType = none) (hlocks : meth.locks = false) (hK : KM g s) (hI : HI g) {post : VV → AA → Prop}  : ∀ (V : VV) (A : AA) (x1 : Int32), w9_byFar_159 post  V A x1 → ∀ (H : Heap) (locs : List Loc), HM g V A H → va_S (HA g) s.heap H locs → ∀ (ls : Array Slot), lv_has ls 4 [(0, .ref (mh g)), (1, .int x1)] → W p l e rm9_byFar s m args below meth c H locs 0 0 (MQ below (MQv g post) args s 0 0 (HA g)) (F0 m 159 ls []) := by
  have hx := S.1
  have hb := S.2.1
  have hown := S.2.2.2.1
  have hts := S.2.2.2.2
  intro V A x1 hw H locs hM hS ls hl
  unfold w9_byFar_159 at hw
  refine lv_iload_n hx hb dX9_byFar_159 rfl (lv_at hl 1 rfl) ?_
  refine lv_aload_n hx hb dX9_byFar_160 rfl (lv_at hl 0 rfl) ?_
  refine mo_geti S hK hM 12 (by decide) q791 dX9_byFar_161 rfl ?_
  refine lv_icmp_ge (tgt := 172) hx hb dX9_byFar_164 (by decide) (fun c23 => ?_) (fun c23 => ?_)
  · have hw := hw.1 c23
    exact mo_vret S hr hlocks hM hS hw dX9_byFar_172
  · have hw := hw.2 c23
    refine lv_aload_n hx hb dX9_byFar_167 rfl (lv_at hl 0 rfl) ?_
    refine lv_iconst (v := 1) hx hb dX9_byFar_168 (by decide) ?_
    refine mo_put S hK hI hM hS 17 (by decide) q796 dX9_byFar_169 rfl rfl ⟨rfl, rfl⟩ (fun H locs hM hS => ?_)
    exact mo_vret S hr hlocks hM hS hw dX9_byFar_172
def w9_byFar_136 (post : VV → AA → Prop)  (V : VV) (A : AA) (x1 x2 : Int32) : Prop :=
  (x2 < (V 19) → w9_byFar_159 post V A x1) ∧ (¬ x2 < (V 19) → vp_in 1 1100 ∧ w9_byFar_159 post (vu (vu V 19 x2) 18 (A 33 (1 : Int32).toNatClampNeg)) A x1)
set_option maxHeartbeats 4000000 in
set_option maxRecDepth 100000 in
theorem r9_byFar_136 {p : Program} {l : Launch} {e : Env} {s : State} {m : MethodId} {args : Array Value} {below : List Frame} {meth : Method} {c : Code} {g : MG} (S : CallFix p m c cX9_byFar 4 s args lw_all RX9) (hr : meth.sig.returnType = none) (hlocks : meth.locks = false) (hK : KM g s) (hI : HI g) {post : VV → AA → Prop}  : ∀ (V : VV) (A : AA) (x1 x2 : Int32), w9_byFar_136 post  V A x1 x2 → ∀ (H : Heap) (locs : List Loc), HM g V A H → va_S (HA g) s.heap H locs → ∀ (ls : Array Slot), lv_has ls 4 [(0, .ref (mh g)), (1, .int x1), (2, .int x2)] → W p l e rm9_byFar s m args below meth c H locs 0 0 (MQ below (MQv g post) args s 0 0 (HA g)) (F0 m 136 ls []) := by
  have hx := S.1
  have hb := S.2.1
  have hown := S.2.2.2.1
  have hts := S.2.2.2.2
  intro V A x1 x2 hw H locs hM hS ls hl
  unfold w9_byFar_136 at hw
  refine lv_iload_n hx hb dX9_byFar_136 rfl (lv_at hl 2 rfl) ?_
  refine lv_aload_n hx hb dX9_byFar_137 rfl (lv_at hl 0 rfl) ?_
  refine mo_geti S hK hM 19 (by decide) q798 dX9_byFar_138 rfl ?_
  refine lv_icmp_lt (tgt := 159) hx hb dX9_byFar_141 (by decide) (fun c22 => ?_) (fun c22 => ?_)
  · have hw := hw.1 c22
    exact r9_byFar_159 S hr hlocks hK hI  _ _ _ hw _ _ hM hS _ (lv_sub hl [0, 1] rfl)
  · have hw := hw.2 c22
    refine lv_aload_n hx hb dX9_byFar_144 rfl (lv_at hl 0 rfl) ?_
    refine lv_iload_n hx hb dX9_byFar_145 rfl (lv_at hl 2 rfl) ?_
    refine mo_put S hK hI hM hS 19 (by decide) q798 dX9_byFar_146 rfl rfl ⟨rfl, rfl⟩ (fun H locs hM hS => ?_)
    refine lv_aload_n hx hb dX9_byFar_149 rfl (lv_at hl 0 rfl) ?_
    refine lv_aload_n hx hb dX9_byFar_150 rfl (lv_at hl 0 rfl) ?_
    refine mo_geta S hK hM 33 (by decide) q812 dX9_byFar_151 rfl ?_
    refine lv_iconst (v := 1) hx hb dX9_byFar_154 (by decide) ?_
    have hin := hw.1
    have hw := hw.2
    refine mo_ald S hK hM 33 rfl hin dX9_byFar_155 ?_
    refine mo_put S hK hI hM hS 18 (by decide) q797 dX9_byFar_156 rfl rfl ⟨rfl, rfl⟩ (fun H locs hM hS => ?_)
    exact r9_byFar_159 S hr hlocks hK hI  _ _ _ hw _ _ hM hS _ (lv_sub hl [0, 1] rfl)
def w9_byFar_85 (post : VV → AA → Prop)  (V : VV) (A : AA) (x1 x2 : Int32) : Prop :=
  w9_twoAt (fun (r20 : Int32) (V18 : VV) (A19 : AA) => (r20 ≤ (V18 13) → w9_byFar_136 post V18 A19 x1 x2) ∧ (¬ r20 ≤ (V18 13) → w9_stateOf (fun (r26 : Int32) (V24 : VV) (A25 : AA) => (r26 = (-1) → w9_byFar_136 post V24 A25 x1 x2) ∧ (¬ r26 = (-1) → w9_goBelow (fun (r30 : Int32) (V28 : VV) (A29 : AA) => w9_byFar_136 post (vu V28 14 r30) A29 x1 x2) (vu V24 13 r20) A25 1 ((vu V24 13 r20) 14) ((vu V24 13 r20) 13))) V18 A19 1 (V18 14) r20)) V A 6
set_option maxHeartbeats 4000000 in
set_option maxRecDepth 100000 in
theorem r9_byFar_85 {p : Program} {l : Launch} {e : Env} {s : State} {m : MethodId} {args : Array Value} {below : List Frame} {meth : Method} {c : Code} {g : MG} (S : CallFix p m c cX9_byFar 4 s args lw_all RX9) (hr : meth.sig.returnType = none) (hlocks : meth.locks = false) (hK : KM g s) (hI : HI g) {post : VV → AA → Prop}  : ∀ (V : VV) (A : AA) (x1 x2 : Int32), w9_byFar_85 post  V A x1 x2 → ∀ (H : Heap) (locs : List Loc), HM g V A H → va_S (HA g) s.heap H locs → ∀ (ls : Array Slot), lv_has ls 4 [(0, .ref (mh g)), (1, .int x1), (2, .int x2)] → W p l e rm9_byFar s m args below meth c H locs 0 0 (MQ below (MQv g post) args s 0 0 (HA g)) (F0 m 85 ls []) := by
  have hx := S.1
  have hb := S.2.1
  have hown := S.2.2.2.1
  have hts := S.2.2.2.2
  intro V A x1 x2 hw H locs hM hS ls hl
  unfold w9_byFar_85 at hw
  refine lv_aload_n hx hb dX9_byFar_85 rfl (lv_at hl 0 rfl) ?_
  refine lv_bipush (v := 6) hx hb dX9_byFar_86 (by decide) ?_
  refine mo_calli (As := [.int 6]) S hK hM hS (m9_twoAt l g V A 6 _ hI hw) (cwV 1 hts (lw_V q1053 q1055 qs40 q64 q1056) rfl rfl rfl (by decide +kernel) ⟨Nat.le_of_ble_eq_true rfl, Nat.le_of_ble_eq_true rfl⟩) rfl hl.1 rfl (lv_room (Nat.le_of_ble_eq_true rfl)) dX9_byFar_88 ⟨Nat.zero_le _, Nat.zero_le _⟩ (fun r20 V18 A19 H locs hw hM hS => ?_)
  refine lv_istore_n (lv' := [(3, .int r20), (0, .ref (mh g)), (1, .int x1), (2, .int x2)]) hx hb dX9_byFar_91 rfl hl (by decide) rfl (fun ls hl => ?_)
  refine lv_iload_n hx hb dX9_byFar_92 rfl (lv_at hl 0 rfl) ?_
  refine lv_aload_n hx hb dX9_byFar_93 rfl (lv_at hl 1 rfl) ?_
  refine mo_geti S hK hM 13 (by decide) q792 dX9_byFar_94 rfl ?_
  refine lv_icmp_le (tgt := 136) hx hb dX9_byFar_97 (by decide) (fun c21 => ?_) (fun c21 => ?_)
  · have hw := hw.1 c21
    exact r9_byFar_136 S hr hlocks hK hI  _ _ _ _ hw _ _ hM hS _ (lv_sub hl [1, 2, 3] rfl)
  · have hw := hw.2 c21
    refine lv_aload_n hx hb dX9_byFar_100 rfl (lv_at hl 1 rfl) ?_
    refine lv_iconst (v := 1) hx hb dX9_byFar_101 (by decide) ?_
    refine lv_aload_n hx hb dX9_byFar_102 rfl (lv_at hl 1 rfl) ?_
    refine mo_geti S hK hM 14 (by decide) q793 dX9_byFar_103 rfl ?_
    refine lv_iload_n hx hb dX9_byFar_106 rfl (lv_at hl 0 rfl) ?_
    refine mo_calli (As := [.int 1, .int (V18 14), .int r20]) S hK hM hS (m9_stateOf l g V18 A19 1 (V18 14) r20 _ hI hw) (cwV 3 hts (lw_V q996 q998 qs27 q64 q999) rfl rfl rfl (by decide +kernel) ⟨Nat.le_of_ble_eq_true rfl, Nat.le_of_ble_eq_true rfl⟩) rfl hl.1 rfl (lv_room (Nat.le_of_ble_eq_true rfl)) dX9_byFar_107 ⟨Nat.zero_le _, Nat.zero_le _⟩ (fun r26 V24 A25 H locs hw hM hS => ?_)
    refine lv_iconst (v := (-1)) hx hb dX9_byFar_110 (by decide) ?_
    refine lv_icmp_eq (tgt := 136) hx hb dX9_byFar_111 (by decide) (fun c27 => ?_) (fun c27 => ?_)
    · have hw := hw.1 c27
      exact r9_byFar_136 S hr hlocks hK hI  _ _ _ _ hw _ _ hM hS _ (lv_sub hl [1, 2, 3] rfl)
    · have hw := hw.2 c27
      refine lv_aload_n hx hb dX9_byFar_114 rfl (lv_at hl 1 rfl) ?_
      refine lv_iload_n hx hb dX9_byFar_115 rfl (lv_at hl 0 rfl) ?_
      refine mo_put S hK hI hM hS 13 (by decide) q792 dX9_byFar_116 rfl rfl ⟨rfl, rfl⟩ (fun H locs hM hS => ?_)
      refine lv_aload_n hx hb dX9_byFar_119 rfl (lv_at hl 1 rfl) ?_
      refine lv_aload_n hx hb dX9_byFar_120 rfl (lv_at hl 1 rfl) ?_
      refine lv_iconst (v := 1) hx hb dX9_byFar_121 (by decide) ?_
      refine lv_aload_n hx hb dX9_byFar_122 rfl (lv_at hl 1 rfl) ?_
      refine mo_geti S hK hM 14 (by decide) q793 dX9_byFar_123 rfl ?_
      refine lv_aload_n hx hb dX9_byFar_126 rfl (lv_at hl 1 rfl) ?_
      refine mo_geti S hK hM 13 (by decide) q792 dX9_byFar_127 rfl ?_
      refine mo_calli (As := [.int 1, .int ((vu V24 13 r20) 14), .int ((vu V24 13 r20) 13)]) S hK hM hS (m9_goBelow l g (vu V24 13 r20) A25 1 ((vu V24 13 r20) 14) ((vu V24 13 r20) 13) _ hI hw) (cwV 3 hts (lw_V q1081 q1083 qs47 q64 q1084) rfl rfl rfl (by decide +kernel) ⟨Nat.le_of_ble_eq_true rfl, Nat.le_of_ble_eq_true rfl⟩) rfl hl.1 rfl (lv_room (Nat.le_of_ble_eq_true rfl)) dX9_byFar_130 ⟨Nat.zero_le _, Nat.zero_le _⟩ (fun r30 V28 A29 H locs hw hM hS => ?_)
      refine mo_put S hK hI hM hS 14 (by decide) q793 dX9_byFar_133 rfl rfl ⟨rfl, rfl⟩ (fun H locs hM hS => ?_)
      exact r9_byFar_136 S hr hlocks hK hI  _ _ _ _ hw _ _ hM hS _ (lv_sub hl [1, 2, 3] rfl)
def w9_byFar (post : VV → AA → Prop) (V : VV) (A : AA) : Prop :=
  w9_twoAt (fun (r3 : Int32) (V1 : VV) (A2 : AA) => w9_twoAt (fun (r6 : Int32) (V4 : VV) (A5 : AA) => (r3 ≤ (V4 12) → vp_in 5 10 ∧ (vp_in 5 10 ∧ (∀ y3_8 : Int32, y3_8 = V4 12 → (∃ n, w9_byFar_46 post (fun (V15 : VV) (A16 : AA) (x1_13 x2_14 : Int32) => (x2_14 ≤ (V15 12) → w9_byFar_85 post V15 A16 x1_13 x2_14) ∧ (¬ x2_14 ≤ (V15 12) → w9_byFar_85 post (vu V15 12 x2_14) A16 x1_13 x2_14)) n V4 (au A5 29 (5 : Int32).toNatClampNeg ((A5 29 (5 : Int32).toNatClampNeg) + 1)) r3 r6 y3_8)))) ∧ (¬ r3 ≤ (V4 12) → vp_in 4 10 ∧ (vp_in 4 10 ∧ post V4 (au A5 29 (4 : Int32).toNatClampNeg ((A5 29 (4 : Int32).toNatClampNeg) + 1))))) V1 A2 4) V A 2
set_option maxHeartbeats 4000000 in
set_option maxRecDepth 100000 in
theorem m9_byFar (l : Launch) (g : MG) (V : VV) (A : AA) (post : VV → AA → Prop) (hI : HI g) (hw : w9_byFar post V A ) : Met l yX9_byFar (ws_ yX9_byFar cX9_byFar 4 none) rm9_byFar (MPc g V A [.ref (mh g)]) (MQv g post) 0 0 (HA g) := by
  refine Met.ofW (cc := cX9_byFar) (maxL := 4) (ret := none) (by decide) rfl ?_
  intro p e s m args below meth c s₁ B hml hv
  obtain ⟨rfl, hK, hM⟩ := hv
  have hx := B.exec
  have hb := B.bytes
  have hr : meth.sig.returnType = none := B.returns
  have hts := atoms_spec (ws := ws_ yX9_byFar cX9_byFar 4 none) B.pre
  have hts : ∀ w ∈ lw_all, w.before _ s = true := fun w h => hts w (List.mem_cons_of_mem _ h)
  have hown : s.vm.findClass RX9 = some m.cls := findClass_of_methodNamed B.named
  have hlocks : meth.locks = false := B.notSynchronized
  have S : CallFix p m c cX9_byFar 4 s _ lw_all RX9 := ⟨hx, hb, hml, hown, hts⟩
  have hS : va_S (HA g) s.heap s.heap [] := va_S.rf
  have hl := lv_entry ([.ref (mh g)]) (n := 4) (Nat.le_of_ble_eq_true rfl)
  rw [lg_entry_eq]
  generalize (lg_sl ([.ref (mh g)]) ++ List.replicate (4 - (lg_sl ([.ref (mh g)])).length) Slot.unset).toArray = ls at hl ⊢
  have hl : lv_has ls 4 [(0, .ref (mh g))] := hl
  unfold w9_byFar at hw
  refine lv_aload_n hx hb dX9_byFar_0 rfl (lv_at hl 0 rfl) ?_
  refine lv_iconst (v := 2) hx hb dX9_byFar_1 (by decide) ?_
  refine mo_calli (As := [.int 2]) S hK hM hS (m9_twoAt l g V A 2 _ hI hw) (cwV 1 hts (lw_V q1053 q1055 qs40 q64 q1056) rfl rfl rfl (by decide +kernel) ⟨Nat.le_of_ble_eq_true rfl, Nat.le_of_ble_eq_true rfl⟩) rfl hl.1 rfl (lv_room (Nat.le_of_ble_eq_true rfl)) dX9_byFar_2 ⟨Nat.zero_le _, Nat.zero_le _⟩ (fun r3 V1 A2 H locs hw hM hS => ?_)
  refine lv_istore_n (lv' := [(1, .int r3), (0, .ref (mh g))]) hx hb dX9_byFar_5 rfl hl (by decide) rfl (fun ls hl => ?_)
  refine lv_aload_n hx hb dX9_byFar_6 rfl (lv_at hl 1 rfl) ?_
  refine lv_iconst (v := 4) hx hb dX9_byFar_7 (by decide) ?_
  refine mo_calli (As := [.int 4]) S hK hM hS (m9_twoAt l g V1 A2 4 _ hI hw) (cwV 1 hts (lw_V q1053 q1055 qs40 q64 q1056) rfl rfl rfl (by decide +kernel) ⟨Nat.le_of_ble_eq_true rfl, Nat.le_of_ble_eq_true rfl⟩) rfl hl.1 rfl (lv_room (Nat.le_of_ble_eq_true rfl)) dX9_byFar_8 ⟨Nat.zero_le _, Nat.zero_le _⟩ (fun r6 V4 A5 H locs hw hM hS => ?_)
  refine lv_istore_n (lv' := [(2, .int r6), (1, .int r3), (0, .ref (mh g))]) hx hb dX9_byFar_11 rfl hl (by decide) rfl (fun ls hl => ?_)
  refine lv_iload_n hx hb dX9_byFar_12 rfl (lv_at hl 1 rfl) ?_
  refine lv_aload_n hx hb dX9_byFar_13 rfl (lv_at hl 2 rfl) ?_
  refine mo_geti S hK hM 12 (by decide) q791 dX9_byFar_14 rfl ?_
  refine lv_icmp_le (tgt := 31) hx hb dX9_byFar_17 (by decide) (fun c7 => ?_) (fun c7 => ?_)
  · have hw := hw.1 c7
    refine lv_aload_n hx hb dX9_byFar_31 rfl (lv_at hl 2 rfl) ?_
    refine mo_geta S hK hM 29 (by decide) q808 dX9_byFar_32 rfl ?_
    refine lv_iconst (v := 5) hx hb dX9_byFar_35 (by decide) ?_
    refine lv_dup2_11 hx hb dX9_byFar_36 rfl rfl ?_
    have hin := hw.1
    have hw := hw.2
    refine mo_ald S hK hM 29 rfl hin dX9_byFar_37 ?_
    refine lv_iconst (v := 1) hx hb dX9_byFar_38 (by decide) ?_
    refine lv_iadd hx hb dX9_byFar_39 ?_
    have hin := hw.1
    have hw := hw.2
    refine mo_ast S hK hI hM hS 29 rfl hin dX9_byFar_40 (fun H locs hM hS => ?_)
    refine lv_aload_n hx hb dX9_byFar_41 rfl (lv_at hl 2 rfl) ?_
    refine mo_geti S hK hM 12 (by decide) q791 dX9_byFar_42 rfl ?_
    refine lv_topi (fun y3_8 ey3_8 => ?_)
    have hw := hw y3_8 ey3_8
    refine lv_istore_n (lv' := [(3, .int y3_8), (2, .int r6), (1, .int r3), (0, .ref (mh g))]) hx hb dX9_byFar_45 rfl hl (by decide) rfl (fun ls hl => ?_)
    obtain ⟨n, hw⟩ := hw
    refine r9_byFar_46 S hr hlocks hK hI (fun V15 A16 x1_13 x2_14 hw H locs hM hS ls hl => ?_) n _ _ _ _ _ hw _ _ hM hS _ (lv_sub hl [3, 2, 1, 0] rfl)
    refine lv_iload_n hx hb dX9_byFar_72 rfl (lv_at hl 2 rfl) ?_
    refine lv_aload_n hx hb dX9_byFar_73 rfl (lv_at hl 0 rfl) ?_
    refine mo_geti S hK hM 12 (by decide) q791 dX9_byFar_74 rfl ?_
    refine lv_icmp_le (tgt := 85) hx hb dX9_byFar_77 (by decide) (fun c17 => ?_) (fun c17 => ?_)
    · have hw := hw.1 c17
      exact r9_byFar_85 S hr hlocks hK hI  _ _ _ _ hw _ _ hM hS _ (lv_sub hl [0, 1, 2] rfl)
    · have hw := hw.2 c17
      refine lv_aload_n hx hb dX9_byFar_80 rfl (lv_at hl 0 rfl) ?_
      refine lv_iload_n hx hb dX9_byFar_81 rfl (lv_at hl 2 rfl) ?_
      refine mo_put S hK hI hM hS 12 (by decide) q791 dX9_byFar_82 rfl rfl ⟨rfl, rfl⟩ (fun H locs hM hS => ?_)
      exact r9_byFar_85 S hr hlocks hK hI  _ _ _ _ hw _ _ hM hS _ (lv_sub hl [0, 1, 2] rfl)
  · have hw := hw.2 c7
    refine lv_aload_n hx hb dX9_byFar_20 rfl (lv_at hl 2 rfl) ?_
    refine mo_geta S hK hM 29 (by decide) q808 dX9_byFar_21 rfl ?_
    refine lv_iconst (v := 4) hx hb dX9_byFar_24 (by decide) ?_
    refine lv_dup2_11 hx hb dX9_byFar_25 rfl rfl ?_
    have hin := hw.1
    have hw := hw.2
    refine mo_ald S hK hM 29 rfl hin dX9_byFar_26 ?_
    refine lv_iconst (v := 1) hx hb dX9_byFar_27 (by decide) ?_
    refine lv_iadd hx hb dX9_byFar_28 ?_
    have hin := hw.1
    have hw := hw.2
    refine mo_ast S hK hI hM hS 29 rfl hin dX9_byFar_29 (fun H locs hM hS => ?_)
    exact mo_vret S hr hlocks hM hS hw dX9_byFar_30
/-! FarTypewriterModel.laid(III)V -/
abbrev rm9_laid : Room := { frames := 2, cells := 0, slots := 0, locals := 47 }
def w9_laid_140 (post : VV → AA → Prop) (kb : VV → AA → Int32 → Int32 → Int32 → Int32 → Int32 → Int32 → Int32 → Prop) (V : VV) (A : AA) (x1 x3 x4 x5 x6 x8 x9 : Int32) : Prop :=
  kb V A x1 x3 x4 x5 x6 x8 (x9 + 1)
set_option maxHeartbeats 4000000 in
set_option maxRecDepth 100000 in
theorem r9_laid_140 {p : Program} {l : Launch} {e : Env} {s : State} {m : MethodId} {args : Array Value} {below : List Frame} {meth : Method} {c : Code} {g : MG} (S : CallFix p m c cX9_laid 10 s args lw_all RX9) (hr : meth.sig.returnType = none) (hlocks : meth.locks = false) (hK : KM g s) (hI : HI g) {post : VV → AA → Prop} {kb : VV → AA → Int32 → Int32 → Int32 → Int32 → Int32 → Int32 → Int32 → Prop} (hkb : ∀ (V : VV) (A : AA) (x1 x3 x4 x5 x6 x8 x9 : Int32), kb V A x1 x3 x4 x5 x6 x8 x9 → ∀ (H : Heap) (locs : List Loc), HM g V A H → va_S (HA g) s.heap H locs → ∀ (ls : Array Slot), lv_has ls 10 [(0, .ref (mh g)), (1, .int x1), (3, .int x3), (4, .int x4), (5, .int x5), (6, .int x6), (8, .int x8), (9, .int x9)] → W p l e rm9_laid s m args below meth c H locs 0 0 (MQ below (MQv g post) args s 0 0 (HA g)) (F0 m 89 ls [])) : ∀ (V : VV) (A : AA) (x1 x3 x4 x5 x6 x8 x9 : Int32), w9_laid_140 post kb V A x1 x3 x4 x5 x6 x8 x9 → ∀ (H : Heap) (locs : List Loc), HM g V A H → va_S (HA g) s.heap H locs → ∀ (ls : Array Slot), lv_has ls 10 [(0, .ref (mh g)), (1, .int x1), (3, .int x3), (4, .int x4), (5, .int x5), (6, .int x6), (8, .int x8), (9, .int x9)] → W p l e rm9_laid s m args below meth c H locs 0 0 (MQ below (MQv g post) args s 0 0 (HA g)) (F0 m 140 ls []) := by
  have hx := S.1
  have hb := S.2.1
  have hown := S.2.2.2.1
  have hts := S.2.2.2.2
  intro V A x1 x3 x4 x5 x6 x8 x9 hw H locs hM hS ls hl
  unfold w9_laid_140 at hw
  refine lv_iinc (v := x9 + 1) (lv' := [(9, .int (x9 + 1)), (0, .ref (mh g)), (1, .int x1), (3, .int x3), (4, .int x4), (5, .int x5), (6, .int x6), (8, .int x8)]) hx hb dX9_laid_140 hl (k := 7) rfl rfl (by decide) rfl (fun ls hl => ?_)
  refine lv_goto (tgt := 89) hx hb dX9_laid_143 (by decide) ?_
  exact hkb _ _ _ _ _ _ _ _ _ hw _ _ hM hS _ (lv_sub hl [1, 2, 3, 4, 5, 6, 7, 0] rfl)
def b9_laid_89 (post : VV → AA → Prop) (k146 : VV → AA → Int32 → Int32 → Int32 → Int32 → Prop) (kb : VV → AA → Int32 → Int32 → Int32 → Int32 → Int32 → Int32 → Int32 → Prop) (V : VV) (A : AA) (x1 x3 x4 x5 x6 x8 x9 : Int32) : Prop :=
  (x8 < x9 → k146 V A x1 x3 x4 x6) ∧ (¬ x8 < x9 → vp_in x4 1100 ∧ (vp_in (x5 + x9) 13248 ∧ (vp_in (x4 + 1) 1100 ∧ (vp_in (x5 + x9) 13248 ∧ ((x6 = 0 → w9_laid_140 post kb V (au (au A 0 (x5 + x9).toNatClampNeg (A 33 x4.toNatClampNeg)) 1 (x5 + x9).toNatClampNeg ((au A 0 (x5 + x9).toNatClampNeg (A 33 x4.toNatClampNeg)) 33 (x4 + 1).toNatClampNeg)) x1 x3 (x4 + 2) x5 x6 x8 x9) ∧ (¬ x6 = 0 → w9_laid_140 post kb V (au (au A 0 (x5 + x9).toNatClampNeg (A 33 x4.toNatClampNeg)) 1 (x5 + x9).toNatClampNeg ((au A 0 (x5 + x9).toNatClampNeg (A 33 x4.toNatClampNeg)) 33 (x4 + 1).toNatClampNeg)) x1 x3 x4 x5 x6 x8 x9))))))
def w9_laid_89 (post : VV → AA → Prop) (k146 : VV → AA → Int32 → Int32 → Int32 → Int32 → Prop) : Nat → VV → AA → Int32 → Int32 → Int32 → Int32 → Int32 → Int32 → Int32 → Prop
  | 0 => fun _ _ _ _ _ _ _ _ _ => False
  | n + 1 => b9_laid_89 post k146 (w9_laid_89 post k146 n)
set_option maxHeartbeats 4000000 in
set_option maxRecDepth 100000 in
theorem r9_laid_89 {p : Program} {l : Launch} {e : Env} {s : State} {m : MethodId} {args : Array Value} {below : List Frame} {meth : Method} {c : Code} {g : MG} (S : CallFix p m c cX9_laid 10 s args lw_all RX9) (hr : meth.sig.returnType = none) (hlocks : meth.locks = false) (hK : KM g s) (hI : HI g) {post : VV → AA → Prop} {k146 : VV → AA → Int32 → Int32 → Int32 → Int32 → Prop} (hk146 : ∀ (V : VV) (A : AA) (x1 x3 x4 x6 : Int32), k146 V A x1 x3 x4 x6 → ∀ (H : Heap) (locs : List Loc), HM g V A H → va_S (HA g) s.heap H locs → ∀ (ls : Array Slot), lv_has ls 10 [(0, .ref (mh g)), (1, .int x1), (3, .int x3), (4, .int x4), (6, .int x6)] → W p l e rm9_laid s m args below meth c H locs 0 0 (MQ below (MQv g post) args s 0 0 (HA g)) (F0 m 146 ls [])) : ∀ n : Nat, ∀ (V : VV) (A : AA) (x1 x3 x4 x5 x6 x8 x9 : Int32), w9_laid_89 post k146 n V A x1 x3 x4 x5 x6 x8 x9 → ∀ (H : Heap) (locs : List Loc), HM g V A H → va_S (HA g) s.heap H locs → ∀ (ls : Array Slot), lv_has ls 10 [(0, .ref (mh g)), (1, .int x1), (3, .int x3), (4, .int x4), (5, .int x5), (6, .int x6), (8, .int x8), (9, .int x9)] → W p l e rm9_laid s m args below meth c H locs 0 0 (MQ below (MQv g post) args s 0 0 (HA g)) (F0 m 89 ls []) := by
  have hx := S.1
  have hb := S.2.1
  have hown := S.2.2.2.1
  have hts := S.2.2.2.2
  intro n
  induction n with
  | zero =>
    intro V A x1 x3 x4 x5 x6 x8 x9 hw
    exact hw.elim
  | succ n hkb =>
    intro V A x1 x3 x4 x5 x6 x8 x9 hw H locs hM hS ls hl
    unfold w9_laid_89 b9_laid_89 at hw
    refine lv_iload hx hb dX9_laid_89 (lv_at hl 7 rfl) ?_
    refine lv_iload hx hb dX9_laid_91 (lv_at hl 6 rfl) ?_
    refine lv_icmp_gt (tgt := 146) hx hb dX9_laid_93 (by decide) (fun c10 => ?_) (fun c10 => ?_)
    · have hw := hw.1 c10
      exact hk146 _ _ _ _ _ _ hw _ _ hM hS _ (lv_sub hl [0, 1, 2, 3, 5] rfl)
    · have hw := hw.2 c10
      refine lv_aload_n hx hb dX9_laid_96 rfl (lv_at hl 0 rfl) ?_
      refine mo_geta S hK hM 0 (by decide) q779 dX9_laid_97 rfl ?_
      refine lv_iload hx hb dX9_laid_100 (lv_at hl 4 rfl) ?_
      refine lv_iload hx hb dX9_laid_102 (lv_at hl 7 rfl) ?_
      refine lv_iadd hx hb dX9_laid_104 ?_
      refine lv_aload_n hx hb dX9_laid_105 rfl (lv_at hl 0 rfl) ?_
      refine mo_geta S hK hM 33 (by decide) q812 dX9_laid_106 rfl ?_
      refine lv_iload hx hb dX9_laid_109 (lv_at hl 3 rfl) ?_
      have hin := hw.1
      have hw := hw.2
      refine mo_ald S hK hM 33 rfl hin dX9_laid_111 ?_
      have hin := hw.1
      have hw := hw.2
      refine mo_ast S hK hI hM hS 0 rfl hin dX9_laid_112 (fun H locs hM hS => ?_)
      refine lv_aload_n hx hb dX9_laid_113 rfl (lv_at hl 0 rfl) ?_
      refine mo_geta S hK hM 1 (by decide) q780 dX9_laid_114 rfl ?_
      refine lv_iload hx hb dX9_laid_117 (lv_at hl 4 rfl) ?_
      refine lv_iload hx hb dX9_laid_119 (lv_at hl 7 rfl) ?_
      refine lv_iadd hx hb dX9_laid_121 ?_
      refine lv_aload_n hx hb dX9_laid_122 rfl (lv_at hl 0 rfl) ?_
      refine mo_geta S hK hM 33 (by decide) q812 dX9_laid_123 rfl ?_
      refine lv_iload hx hb dX9_laid_126 (lv_at hl 3 rfl) ?_
      refine lv_iconst (v := 1) hx hb dX9_laid_128 (by decide) ?_
      refine lv_iadd hx hb dX9_laid_129 ?_
      have hin := hw.1
      have hw := hw.2
      refine mo_ald S hK hM 33 rfl hin dX9_laid_130 ?_
      have hin := hw.1
      have hw := hw.2
      refine mo_ast S hK hI hM hS 1 rfl hin dX9_laid_131 (fun H locs hM hS => ?_)
      refine lv_iload hx hb dX9_laid_132 (lv_at hl 5 rfl) ?_
      refine lv_if_ne (tgt := 140) hx hb dX9_laid_134 (by decide) (fun c11 => ?_) (fun c11 => ?_)
      · have hw := hw.2 c11
        exact r9_laid_140 S hr hlocks hK hI hkb _ _ _ _ _ _ _ _ _ hw _ _ hM hS _ (lv_sub hl [0, 1, 2, 3, 4, 5, 6, 7] rfl)
      · have hw := hw.1 c11
        refine lv_iinc (v := x4 + 2) (lv' := [(4, .int (x4 + 2)), (0, .ref (mh g)), (1, .int x1), (3, .int x3), (5, .int x5), (6, .int x6), (8, .int x8), (9, .int x9)]) hx hb dX9_laid_137 hl (k := 3) rfl rfl (by decide) rfl (fun ls hl => ?_)
        exact r9_laid_140 S hr hlocks hK hI hkb _ _ _ _ _ _ _ _ _ hw _ _ hM hS _ (lv_sub hl [1, 2, 3, 0, 4, 5, 6, 7] rfl)
def w9_laid_154 (post : VV → AA → Prop) (kb : VV → AA → Int32 → Int32 → Int32 → Prop) (V : VV) (A : AA) (x1 x3 x4 : Int32) : Prop :=
  kb V A x1 x3 x4
set_option maxHeartbeats 4000000 in
set_option maxRecDepth 100000 in
theorem r9_laid_154 {p : Program} {l : Launch} {e : Env} {s : State} {m : MethodId} {args : Array Value} {below : List Frame} {meth : Method} {c : Code} {g : MG} (S : CallFix p m c cX9_laid 10 s args lw_all RX9) (hr : meth.sig.returnType = none) (hlocks : meth.locks = false) (hK : KM g s) (hI : HI g) {post : VV → AA → Prop} {kb : VV → AA → Int32 → Int32 → Int32 → Prop} (hkb : ∀ (V : VV) (A : AA) (x1 x3 x4 : Int32), kb V A x1 x3 x4 → ∀ (H : Heap) (locs : List Loc), HM g V A H → va_S (HA g) s.heap H locs → ∀ (ls : Array Slot), lv_has ls 10 [(0, .ref (mh g)), (1, .int x1), (3, .int x3), (4, .int x4)] → W p l e rm9_laid s m args below meth c H locs 0 0 (MQ below (MQv g post) args s 0 0 (HA g)) (F0 m 16 ls [])) : ∀ (V : VV) (A : AA) (x1 x3 x4 : Int32), w9_laid_154 post kb V A x1 x3 x4 → ∀ (H : Heap) (locs : List Loc), HM g V A H → va_S (HA g) s.heap H locs → ∀ (ls : Array Slot), lv_has ls 10 [(0, .ref (mh g)), (1, .int x1), (3, .int x3), (4, .int x4)] → W p l e rm9_laid s m args below meth c H locs 0 0 (MQ below (MQv g post) args s 0 0 (HA g)) (F0 m 154 ls []) := by
  have hx := S.1
  have hb := S.2.1
  have hown := S.2.2.2.1
  have hts := S.2.2.2.2
  intro V A x1 x3 x4 hw H locs hM hS ls hl
  unfold w9_laid_154 at hw
  refine lv_goto (tgt := 16) hx hb dX9_laid_154 (by decide) ?_
  exact hkb _ _ _ _ _ hw _ _ hM hS _ (lv_sub hl [0, 1, 2, 3] rfl)
def w9_laid_58 (post : VV → AA → Prop) (kb : VV → AA → Int32 → Int32 → Int32 → Prop) (V : VV) (A : AA) (x1 x3 x4 x5 t0 : Int32) : Prop :=
  vp_in (x4 + 2) 1100 ∧ (∀ y7_8 : Int32, y7_8 = A 33 (x4 + 2).toNatClampNeg → (vp_in (x4 + 3) 1100 ∧ (∀ y8_9 : Int32, y8_9 = A 33 (x4 + 3).toNatClampNeg → (∃ n, w9_laid_89 post (fun (V16 : VV) (A17 : AA) (x1_12 x3_13 x4_14 x6_15 : Int32) => (x6_15 = 0 → w9_laid_154 post kb V16 A17 x1_12 x3_13 x4_14) ∧ (¬ x6_15 = 0 → w9_laid_154 post kb V16 A17 x1_12 x3_13 (x4_14 + 2))) n V A x1 x3 (x4 + 4) x5 t0 y8_9 y7_8))))
set_option maxHeartbeats 4000000 in
set_option maxRecDepth 100000 in
theorem r9_laid_58 {p : Program} {l : Launch} {e : Env} {s : State} {m : MethodId} {args : Array Value} {below : List Frame} {meth : Method} {c : Code} {g : MG} (S : CallFix p m c cX9_laid 10 s args lw_all RX9) (hr : meth.sig.returnType = none) (hlocks : meth.locks = false) (hK : KM g s) (hI : HI g) {post : VV → AA → Prop} {kb : VV → AA → Int32 → Int32 → Int32 → Prop} (hkb : ∀ (V : VV) (A : AA) (x1 x3 x4 : Int32), kb V A x1 x3 x4 → ∀ (H : Heap) (locs : List Loc), HM g V A H → va_S (HA g) s.heap H locs → ∀ (ls : Array Slot), lv_has ls 10 [(0, .ref (mh g)), (1, .int x1), (3, .int x3), (4, .int x4)] → W p l e rm9_laid s m args below meth c H locs 0 0 (MQ below (MQv g post) args s 0 0 (HA g)) (F0 m 16 ls [])) : ∀ (V : VV) (A : AA) (x1 x3 x4 x5 t0 : Int32), w9_laid_58 post kb V A x1 x3 x4 x5 t0 → ∀ (H : Heap) (locs : List Loc), HM g V A H → va_S (HA g) s.heap H locs → ∀ (ls : Array Slot), lv_has ls 10 [(0, .ref (mh g)), (1, .int x1), (3, .int x3), (4, .int x4), (5, .int x5)] → W p l e rm9_laid s m args below meth c H locs 0 0 (MQ below (MQv g post) args s 0 0 (HA g)) (F0 m 58 ls [.int t0]) := by
  have hx := S.1
  have hb := S.2.1
  have hown := S.2.2.2.1
  have hts := S.2.2.2.2
  intro V A x1 x3 x4 x5 t0 hw H locs hM hS ls hl
  unfold w9_laid_58 at hw
  refine lv_istore (lv' := [(6, .int t0), (0, .ref (mh g)), (1, .int x1), (3, .int x3), (4, .int x4), (5, .int x5)]) hx hb dX9_laid_58 hl (by decide) rfl (fun ls hl => ?_)
  refine lv_aload_n hx hb dX9_laid_60 rfl (lv_at hl 1 rfl) ?_
  refine mo_geta S hK hM 33 (by decide) q812 dX9_laid_61 rfl ?_
  refine lv_iload hx hb dX9_laid_64 (lv_at hl 4 rfl) ?_
  refine lv_iconst (v := 2) hx hb dX9_laid_66 (by decide) ?_
  refine lv_iadd hx hb dX9_laid_67 ?_
  have hin := hw.1
  have hw := hw.2
  refine mo_ald S hK hM 33 rfl hin dX9_laid_68 ?_
  refine lv_topi (fun y7_8 ey7_8 => ?_)
  have hw := hw y7_8 ey7_8
  refine lv_istore (lv' := [(7, .int y7_8), (6, .int t0), (0, .ref (mh g)), (1, .int x1), (3, .int x3), (4, .int x4), (5, .int x5)]) hx hb dX9_laid_69 hl (by decide) rfl (fun ls hl => ?_)
  refine lv_aload_n hx hb dX9_laid_71 rfl (lv_at hl 2 rfl) ?_
  refine mo_geta S hK hM 33 (by decide) q812 dX9_laid_72 rfl ?_
  refine lv_iload hx hb dX9_laid_75 (lv_at hl 5 rfl) ?_
  refine lv_iconst (v := 3) hx hb dX9_laid_77 (by decide) ?_
  refine lv_iadd hx hb dX9_laid_78 ?_
  have hin := hw.1
  have hw := hw.2
  refine mo_ald S hK hM 33 rfl hin dX9_laid_79 ?_
  refine lv_topi (fun y8_9 ey8_9 => ?_)
  have hw := hw y8_9 ey8_9
  refine lv_istore (lv' := [(8, .int y8_9), (7, .int y7_8), (6, .int t0), (0, .ref (mh g)), (1, .int x1), (3, .int x3), (4, .int x4), (5, .int x5)]) hx hb dX9_laid_80 hl (by decide) rfl (fun ls hl => ?_)
  refine lv_iinc (v := x4 + 4) (lv' := [(4, .int (x4 + 4)), (8, .int y8_9), (7, .int y7_8), (6, .int t0), (0, .ref (mh g)), (1, .int x1), (3, .int x3), (5, .int x5)]) hx hb dX9_laid_82 hl (k := 6) rfl rfl (by decide) rfl (fun ls hl => ?_)
  refine lv_iload hx hb dX9_laid_85 (lv_at hl 2 rfl) ?_
  refine lv_istore (lv' := [(9, .int y7_8), (4, .int (x4 + 4)), (8, .int y8_9), (7, .int y7_8), (6, .int t0), (0, .ref (mh g)), (1, .int x1), (3, .int x3), (5, .int x5)]) hx hb dX9_laid_87 hl (by decide) rfl (fun ls hl => ?_)
  obtain ⟨n, hw⟩ := hw
  refine r9_laid_89 S hr hlocks hK hI (fun V16 A17 x1_12 x3_13 x4_14 x6_15 hw H locs hM hS ls hl => ?_) n _ _ _ _ _ _ _ _ _ hw _ _ hM hS _ (lv_sub hl [5, 6, 7, 1, 8, 4, 2, 0] rfl)
  refine lv_iload hx hb dX9_laid_146 (lv_at hl 4 rfl) ?_
  refine lv_if_eq (tgt := 154) hx hb dX9_laid_148 (by decide) (fun c18 => ?_) (fun c18 => ?_)
  · have hw := hw.1 c18
    exact r9_laid_154 S hr hlocks hK hI hkb _ _ _ _ _ hw _ _ hM hS _ (lv_sub hl [0, 1, 2, 3] rfl)
  · have hw := hw.2 c18
    refine lv_iinc (v := x4_14 + 2) (lv' := [(4, .int (x4_14 + 2)), (0, .ref (mh g)), (1, .int x1_12), (3, .int x3_13), (6, .int x6_15)]) hx hb dX9_laid_151 hl (k := 3) rfl rfl (by decide) rfl (fun ls hl => ?_)
    exact r9_laid_154 S hr hlocks hK hI hkb _ _ _ _ _ hw _ _ hM hS _ (lv_sub hl [1, 2, 3, 0] rfl)
def b9_laid_16 (post : VV → AA → Prop)  (kb : VV → AA → Int32 → Int32 → Int32 → Prop) (V : VV) (A : AA) (x1 x3 x4 : Int32) : Prop :=
  (x3 ≤ x4 → post V A) ∧ (¬ x3 ≤ x4 → vp_in x4 1100 ∧ (∀ y5_6 : Int32, y5_6 = (192 * x1) + (24 * (A 33 x4.toNatClampNeg)) → (vp_in (x4 + 1) 1100 ∧ (((A 33 (x4 + 1).toNatClampNeg) = 1 → w9_laid_58 post kb V A x1 x3 x4 y5_6 1) ∧ (¬ (A 33 (x4 + 1).toNatClampNeg) = 1 → w9_laid_58 post kb V A x1 x3 x4 y5_6 0)))))
def w9_laid_16 (post : VV → AA → Prop)  : Nat → VV → AA → Int32 → Int32 → Int32 → Prop
  | 0 => fun _ _ _ _ _ => False
  | n + 1 => b9_laid_16 post  (w9_laid_16 post  n)
set_option maxHeartbeats 4000000 in
set_option maxRecDepth 100000 in
theorem r9_laid_16 {p : Program} {l : Launch} {e : Env} {s : State} {m : MethodId} {args : Array Value} {below : List Frame} {meth : Method} {c : Code} {g : MG} (S : CallFix p m c cX9_laid 10 s args lw_all RX9) (hr : meth.sig.returnType = none) (hlocks : meth.locks = false) (hK : KM g s) (hI : HI g) {post : VV → AA → Prop}  : ∀ n : Nat, ∀ (V : VV) (A : AA) (x1 x3 x4 : Int32), w9_laid_16 post  n V A x1 x3 x4 → ∀ (H : Heap) (locs : List Loc), HM g V A H → va_S (HA g) s.heap H locs → ∀ (ls : Array Slot), lv_has ls 10 [(0, .ref (mh g)), (1, .int x1), (3, .int x3), (4, .int x4)] → W p l e rm9_laid s m args below meth c H locs 0 0 (MQ below (MQv g post) args s 0 0 (HA g)) (F0 m 16 ls []) := by
  have hx := S.1
  have hb := S.2.1
  have hown := S.2.2.2.1
  have hts := S.2.2.2.2
  intro n
  induction n with
  | zero =>
    intro V A x1 x3 x4 hw
    exact hw.elim
  | succ n hkb =>
    intro V A x1 x3 x4 hw H locs hM hS ls hl
    unfold w9_laid_16 b9_laid_16 at hw
    refine lv_iload hx hb dX9_laid_16 (lv_at hl 3 rfl) ?_
    refine lv_iload_n hx hb dX9_laid_18 rfl (lv_at hl 2 rfl) ?_
    refine lv_icmp_ge (tgt := 157) hx hb dX9_laid_19 (by decide) (fun c5 => ?_) (fun c5 => ?_)
    · have hw := hw.1 c5
      exact mo_vret S hr hlocks hM hS hw dX9_laid_157
    · have hw := hw.2 c5
      refine lv_sipush (v := 192) hx hb dX9_laid_22 (by decide) ?_
      refine lv_iload_n hx hb dX9_laid_25 rfl (lv_at hl 1 rfl) ?_
      refine lv_imul hx hb dX9_laid_26 ?_
      refine lv_bipush (v := 24) hx hb dX9_laid_27 (by decide) ?_
      refine lv_aload_n hx hb dX9_laid_29 rfl (lv_at hl 0 rfl) ?_
      refine mo_geta S hK hM 33 (by decide) q812 dX9_laid_30 rfl ?_
      refine lv_iload hx hb dX9_laid_33 (lv_at hl 3 rfl) ?_
      have hin := hw.1
      have hw := hw.2
      refine mo_ald S hK hM 33 rfl hin dX9_laid_35 ?_
      refine lv_imul hx hb dX9_laid_36 ?_
      refine lv_iadd hx hb dX9_laid_37 ?_
      refine lv_topi (fun y5_6 ey5_6 => ?_)
      have hw := hw y5_6 ey5_6
      refine lv_istore (lv' := [(5, .int y5_6), (0, .ref (mh g)), (1, .int x1), (3, .int x3), (4, .int x4)]) hx hb dX9_laid_38 hl (by decide) rfl (fun ls hl => ?_)
      refine lv_aload_n hx hb dX9_laid_40 rfl (lv_at hl 1 rfl) ?_
      refine mo_geta S hK hM 33 (by decide) q812 dX9_laid_41 rfl ?_
      refine lv_iload hx hb dX9_laid_44 (lv_at hl 4 rfl) ?_
      refine lv_iconst (v := 1) hx hb dX9_laid_46 (by decide) ?_
      refine lv_iadd hx hb dX9_laid_47 ?_
      have hin := hw.1
      have hw := hw.2
      refine mo_ald S hK hM 33 rfl hin dX9_laid_48 ?_
      refine lv_iconst (v := 1) hx hb dX9_laid_49 (by decide) ?_
      refine lv_icmp_ne (tgt := 57) hx hb dX9_laid_50 (by decide) (fun c7 => ?_) (fun c7 => ?_)
      · have hw := hw.2 c7
        refine lv_iconst (v := 0) hx hb dX9_laid_57 (by decide) ?_
        exact r9_laid_58 S hr hlocks hK hI hkb _ _ _ _ _ _ _ hw _ _ hM hS _ (lv_sub hl [1, 2, 3, 4, 0] rfl)
      · have hw := hw.1 c7
        refine lv_iconst (v := 1) hx hb dX9_laid_53 (by decide) ?_
        refine lv_goto (tgt := 58) hx hb dX9_laid_54 (by decide) ?_
        exact r9_laid_58 S hr hlocks hK hI hkb _ _ _ _ _ _ _ hw _ _ hM hS _ (lv_sub hl [1, 2, 3, 4, 0] rfl)
def w9_laid (post : VV → AA → Prop) (V : VV) (A : AA) (x1 x2 x3 : Int32) : Prop :=
  vp_in x2 1100 ∧ (w9_scrolls (fun (V1 : VV) (A2 : AA) => ∀ y4_4 : Int32, y4_4 = x2 + 1 → (∃ n, w9_laid_16 post  n V1 A2 x1 x3 y4_4)) V A x1 (A 33 x2.toNatClampNeg))
set_option maxHeartbeats 4000000 in
set_option maxRecDepth 100000 in
theorem m9_laid (l : Launch) (g : MG) (V : VV) (A : AA) (x1 x2 x3 : Int32) (post : VV → AA → Prop) (hI : HI g) (hw : w9_laid post V A x1 x2 x3) : Met l yX9_laid (ws_ yX9_laid cX9_laid 10 none) rm9_laid (MPc g V A [.ref (mh g), .int x1, .int x2, .int x3]) (MQv g post) 0 0 (HA g) := by
  refine Met.ofW (cc := cX9_laid) (maxL := 10) (ret := none) (by decide) rfl ?_
  intro p e s m args below meth c s₁ B hml hv
  obtain ⟨rfl, hK, hM⟩ := hv
  have hx := B.exec
  have hb := B.bytes
  have hr : meth.sig.returnType = none := B.returns
  have hts := atoms_spec (ws := ws_ yX9_laid cX9_laid 10 none) B.pre
  have hts : ∀ w ∈ lw_all, w.before _ s = true := fun w h => hts w (List.mem_cons_of_mem _ h)
  have hown : s.vm.findClass RX9 = some m.cls := findClass_of_methodNamed B.named
  have hlocks : meth.locks = false := B.notSynchronized
  have S : CallFix p m c cX9_laid 10 s _ lw_all RX9 := ⟨hx, hb, hml, hown, hts⟩
  have hS : va_S (HA g) s.heap s.heap [] := va_S.rf
  have hl := lv_entry ([.ref (mh g), .int x1, .int x2, .int x3]) (n := 10) (Nat.le_of_ble_eq_true rfl)
  rw [lg_entry_eq]
  generalize (lg_sl ([.ref (mh g), .int x1, .int x2, .int x3]) ++ List.replicate (10 - (lg_sl ([.ref (mh g), .int x1, .int x2, .int x3])).length) Slot.unset).toArray = ls at hl ⊢
  have hl : lv_has ls 10 [(0, .ref (mh g)), (1, .int x1), (2, .int x2), (3, .int x3)] := hl
  unfold w9_laid at hw
  refine lv_aload_n hx hb dX9_laid_0 rfl (lv_at hl 0 rfl) ?_
  refine lv_iload_n hx hb dX9_laid_1 rfl (lv_at hl 1 rfl) ?_
  refine lv_aload_n hx hb dX9_laid_2 rfl (lv_at hl 0 rfl) ?_
  refine mo_geta S hK hM 33 (by decide) q812 dX9_laid_3 rfl ?_
  refine lv_iload_n hx hb dX9_laid_6 rfl (lv_at hl 2 rfl) ?_
  have hin := hw.1
  have hw := hw.2
  refine mo_ald S hK hM 33 rfl hin dX9_laid_7 ?_
  refine mo_callv (As := [.int x1, .int (A 33 x2.toNatClampNeg)]) S hK hM hS (m9_scrolls l g V A x1 (A 33 x2.toNatClampNeg) _ hI hw) (cwV 2 hts (lw_V q941 q943 qs19 q64 q944) rfl rfl rfl (by decide +kernel) ⟨Nat.le_of_ble_eq_true rfl, Nat.le_of_ble_eq_true rfl⟩) rfl hl.1 rfl (lv_room (Nat.le_of_ble_eq_true rfl)) dX9_laid_8 ⟨Nat.zero_le _, Nat.zero_le _⟩ (fun V1 A2 H locs hw hM hS => ?_)
  refine lv_iload_n hx hb dX9_laid_11 rfl (lv_at hl 2 rfl) ?_
  refine lv_iconst (v := 1) hx hb dX9_laid_12 (by decide) ?_
  refine lv_iadd hx hb dX9_laid_13 ?_
  refine lv_topi (fun y4_4 ey4_4 => ?_)
  have hw := hw y4_4 ey4_4
  refine lv_istore (lv' := [(4, .int y4_4), (0, .ref (mh g)), (1, .int x1), (2, .int x2), (3, .int x3)]) hx hb dX9_laid_14 hl (by decide) rfl (fun ls hl => ?_)
  obtain ⟨n, hw⟩ := hw
  refine r9_laid_16 S hr hlocks hK hI  n _ _ _ _ _ hw _ _ hM hS _ (lv_sub hl [1, 2, 4, 0] rfl)
/-! FarTypewriterModel.settles()V -/
abbrev rm9_settles : Room := { frames := 1, cells := 0, slots := 0, locals := 20 }
def w9_settles_179 (post : VV → AA → Prop) (kb : VV → AA → Int32 → Int32 → Int32 → Prop) (V : VV) (A : AA) (x1 x2 x3 : Int32) : Prop :=
  kb V A x1 x2 x3
set_option maxHeartbeats 4000000 in
set_option maxRecDepth 100000 in
theorem r9_settles_179 {p : Program} {l : Launch} {e : Env} {s : State} {m : MethodId} {args : Array Value} {below : List Frame} {meth : Method} {c : Code} {g : MG} (S : CallFix p m c cX9_settles 5 s args lw_all RX9) (hr : meth.sig.returnType = none) (hlocks : meth.locks = false) (hK : KM g s) (hI : HI g) {post : VV → AA → Prop} {kb : VV → AA → Int32 → Int32 → Int32 → Prop} (hkb : ∀ (V : VV) (A : AA) (x1 x2 x3 : Int32), kb V A x1 x2 x3 → ∀ (H : Heap) (locs : List Loc), HM g V A H → va_S (HA g) s.heap H locs → ∀ (ls : Array Slot), lv_has ls 5 [(0, .ref (mh g)), (1, .int x1), (2, .int x2), (3, .int x3)] → W p l e rm9_settles s m args below meth c H locs 0 0 (MQ below (MQv g post) args s 0 0 (HA g)) (F0 m 9 ls [])) : ∀ (V : VV) (A : AA) (x1 x2 x3 : Int32), w9_settles_179 post kb V A x1 x2 x3 → ∀ (H : Heap) (locs : List Loc), HM g V A H → va_S (HA g) s.heap H locs → ∀ (ls : Array Slot), lv_has ls 5 [(0, .ref (mh g)), (1, .int x1), (2, .int x2), (3, .int x3)] → W p l e rm9_settles s m args below meth c H locs 0 0 (MQ below (MQv g post) args s 0 0 (HA g)) (F0 m 179 ls []) := by
  have hx := S.1
  have hb := S.2.1
  have hown := S.2.2.2.1
  have hts := S.2.2.2.2
  intro V A x1 x2 x3 hw H locs hM hS ls hl
  unfold w9_settles_179 at hw
  refine lv_goto (tgt := 9) hx hb dX9_settles_179 (by decide) ?_
  exact hkb _ _ _ _ _ hw _ _ hM hS _ (lv_sub hl [0, 1, 2, 3] rfl)
def w9_settles_160 (post : VV → AA → Prop) (kb : VV → AA → Int32 → Int32 → Int32 → Prop) (V : VV) (A : AA) (x1 x2 x3 : Int32) : Prop :=
  vp_in 7 10 ∧ (vp_in 7 10 ∧ w9_settles_179 post kb V (au A 29 (7 : Int32).toNatClampNeg ((A 29 (7 : Int32).toNatClampNeg) + 1)) x1 (x2 + 1) x3)
set_option maxHeartbeats 4000000 in
set_option maxRecDepth 100000 in
theorem r9_settles_160 {p : Program} {l : Launch} {e : Env} {s : State} {m : MethodId} {args : Array Value} {below : List Frame} {meth : Method} {c : Code} {g : MG} (S : CallFix p m c cX9_settles 5 s args lw_all RX9) (hr : meth.sig.returnType = none) (hlocks : meth.locks = false) (hK : KM g s) (hI : HI g) {post : VV → AA → Prop} {kb : VV → AA → Int32 → Int32 → Int32 → Prop} (hkb : ∀ (V : VV) (A : AA) (x1 x2 x3 : Int32), kb V A x1 x2 x3 → ∀ (H : Heap) (locs : List Loc), HM g V A H → va_S (HA g) s.heap H locs → ∀ (ls : Array Slot), lv_has ls 5 [(0, .ref (mh g)), (1, .int x1), (2, .int x2), (3, .int x3)] → W p l e rm9_settles s m args below meth c H locs 0 0 (MQ below (MQv g post) args s 0 0 (HA g)) (F0 m 9 ls [])) : ∀ (V : VV) (A : AA) (x1 x2 x3 : Int32), w9_settles_160 post kb V A x1 x2 x3 → ∀ (H : Heap) (locs : List Loc), HM g V A H → va_S (HA g) s.heap H locs → ∀ (ls : Array Slot), lv_has ls 5 [(0, .ref (mh g)), (1, .int x1), (2, .int x2), (3, .int x3)] → W p l e rm9_settles s m args below meth c H locs 0 0 (MQ below (MQv g post) args s 0 0 (HA g)) (F0 m 160 ls []) := by
  have hx := S.1
  have hb := S.2.1
  have hown := S.2.2.2.1
  have hts := S.2.2.2.2
  intro V A x1 x2 x3 hw H locs hM hS ls hl
  unfold w9_settles_160 at hw
  refine lv_aload_n hx hb dX9_settles_160 rfl (lv_at hl 0 rfl) ?_
  refine mo_geta S hK hM 29 (by decide) q808 dX9_settles_161 rfl ?_
  refine lv_bipush (v := 7) hx hb dX9_settles_164 (by decide) ?_
  refine lv_dup2_11 hx hb dX9_settles_166 rfl rfl ?_
  have hin := hw.1
  have hw := hw.2
  refine mo_ald S hK hM 29 rfl hin dX9_settles_167 ?_
  refine lv_iconst (v := 1) hx hb dX9_settles_168 (by decide) ?_
  refine lv_iadd hx hb dX9_settles_169 ?_
  have hin := hw.1
  have hw := hw.2
  refine mo_ast S hK hI hM hS 29 rfl hin dX9_settles_170 (fun H locs hM hS => ?_)
  refine lv_iinc (v := x2 + 1) (lv' := [(2, .int (x2 + 1)), (0, .ref (mh g)), (1, .int x1), (3, .int x3)]) hx hb dX9_settles_171 hl (k := 2) rfl rfl (by decide) rfl (fun ls hl => ?_)
  refine lv_goto (tgt := 179) hx hb dX9_settles_174 (by decide) ?_
  exact r9_settles_179 S hr hlocks hK hI hkb _ _ _ _ _ hw _ _ hM hS _ (lv_sub hl [1, 2, 0, 3] rfl)
def w9_settles_130 (post : VV → AA → Prop) (kb : VV → AA → Int32 → Int32 → Int32 → Prop) (V : VV) (A : AA) (x1 x2 x3 t0 : Int32) : Prop :=
  (t0 = 0 → w9_settles_179 post kb V A x1 x2 1) ∧ (¬ t0 = 0 → vp_in x2 60 ∧ (((A 41 x2.toNatClampNeg) ≤ (V 38) → w9_settles_160 post kb V A x1 x2 x3) ∧ (¬ (A 41 x2.toNatClampNeg) ≤ (V 38) → vp_in x2 60 ∧ w9_settles_160 post kb (vu V 38 (A 41 x2.toNatClampNeg)) A x1 x2 x3)))
set_option maxHeartbeats 4000000 in
set_option maxRecDepth 100000 in
theorem r9_settles_130 {p : Program} {l : Launch} {e : Env} {s : State} {m : MethodId} {args : Array Value} {below : List Frame} {meth : Method} {c : Code} {g : MG} (S : CallFix p m c cX9_settles 5 s args lw_all RX9) (hr : meth.sig.returnType = none) (hlocks : meth.locks = false) (hK : KM g s) (hI : HI g) {post : VV → AA → Prop} {kb : VV → AA → Int32 → Int32 → Int32 → Prop} (hkb : ∀ (V : VV) (A : AA) (x1 x2 x3 : Int32), kb V A x1 x2 x3 → ∀ (H : Heap) (locs : List Loc), HM g V A H → va_S (HA g) s.heap H locs → ∀ (ls : Array Slot), lv_has ls 5 [(0, .ref (mh g)), (1, .int x1), (2, .int x2), (3, .int x3)] → W p l e rm9_settles s m args below meth c H locs 0 0 (MQ below (MQv g post) args s 0 0 (HA g)) (F0 m 9 ls [])) : ∀ (V : VV) (A : AA) (x1 x2 x3 t0 : Int32), w9_settles_130 post kb V A x1 x2 x3 t0 → ∀ (H : Heap) (locs : List Loc), HM g V A H → va_S (HA g) s.heap H locs → ∀ (ls : Array Slot), lv_has ls 5 [(0, .ref (mh g)), (1, .int x1), (2, .int x2), (3, .int x3)] → W p l e rm9_settles s m args below meth c H locs 0 0 (MQ below (MQv g post) args s 0 0 (HA g)) (F0 m 130 ls [.int t0]) := by
  have hx := S.1
  have hb := S.2.1
  have hown := S.2.2.2.1
  have hts := S.2.2.2.2
  intro V A x1 x2 x3 t0 hw H locs hM hS ls hl
  unfold w9_settles_130 at hw
  refine lv_istore (lv' := [(4, .int t0), (0, .ref (mh g)), (1, .int x1), (2, .int x2), (3, .int x3)]) hx hb dX9_settles_130 hl (by decide) rfl (fun ls hl => ?_)
  refine lv_iload hx hb dX9_settles_132 (lv_at hl 0 rfl) ?_
  refine lv_if_eq (tgt := 177) hx hb dX9_settles_134 (by decide) (fun c9 => ?_) (fun c9 => ?_)
  · have hw := hw.1 c9
    refine lv_iconst (v := 1) hx hb dX9_settles_177 (by decide) ?_
    refine lv_istore_n (lv' := [(3, .int 1), (4, .int t0), (0, .ref (mh g)), (1, .int x1), (2, .int x2)]) hx hb dX9_settles_178 rfl hl (by decide) rfl (fun ls hl => ?_)
    exact r9_settles_179 S hr hlocks hK hI hkb _ _ _ _ _ hw _ _ hM hS _ (lv_sub hl [2, 3, 4, 0] rfl)
  · have hw := hw.2 c9
    refine lv_aload_n hx hb dX9_settles_137 rfl (lv_at hl 1 rfl) ?_
    refine mo_geta S hK hM 41 (by decide) q820 dX9_settles_138 rfl ?_
    refine lv_iload_n hx hb dX9_settles_141 rfl (lv_at hl 3 rfl) ?_
    have hin := hw.1
    have hw := hw.2
    refine mo_ald S hK hM 41 rfl hin dX9_settles_142 ?_
    refine lv_aload_n hx hb dX9_settles_143 rfl (lv_at hl 1 rfl) ?_
    refine mo_geti S hK hM 38 (by decide) q817 dX9_settles_144 rfl ?_
    refine lv_icmp_le (tgt := 160) hx hb dX9_settles_147 (by decide) (fun c10 => ?_) (fun c10 => ?_)
    · have hw := hw.1 c10
      exact r9_settles_160 S hr hlocks hK hI hkb _ _ _ _ _ hw _ _ hM hS _ (lv_sub hl [1, 2, 3, 4] rfl)
    · have hw := hw.2 c10
      refine lv_aload_n hx hb dX9_settles_150 rfl (lv_at hl 1 rfl) ?_
      refine lv_aload_n hx hb dX9_settles_151 rfl (lv_at hl 1 rfl) ?_
      refine mo_geta S hK hM 41 (by decide) q820 dX9_settles_152 rfl ?_
      refine lv_iload_n hx hb dX9_settles_155 rfl (lv_at hl 3 rfl) ?_
      have hin := hw.1
      have hw := hw.2
      refine mo_ald S hK hM 41 rfl hin dX9_settles_156 ?_
      refine mo_put S hK hI hM hS 38 (by decide) q817 dX9_settles_157 rfl rfl ⟨rfl, rfl⟩ (fun H locs hM hS => ?_)
      exact r9_settles_160 S hr hlocks hK hI hkb _ _ _ _ _ hw _ _ hM hS _ (lv_sub hl [1, 2, 3, 4] rfl)
def w9_settles_91 (post : VV → AA → Prop) (kb : VV → AA → Int32 → Int32 → Int32 → Prop) (V : VV) (A : AA) (x1 x2 x3 : Int32) : Prop :=
  w9_settles_130 post kb V A x1 x2 x3 1
set_option maxHeartbeats 4000000 in
set_option maxRecDepth 100000 in
theorem r9_settles_91 {p : Program} {l : Launch} {e : Env} {s : State} {m : MethodId} {args : Array Value} {below : List Frame} {meth : Method} {c : Code} {g : MG} (S : CallFix p m c cX9_settles 5 s args lw_all RX9) (hr : meth.sig.returnType = none) (hlocks : meth.locks = false) (hK : KM g s) (hI : HI g) {post : VV → AA → Prop} {kb : VV → AA → Int32 → Int32 → Int32 → Prop} (hkb : ∀ (V : VV) (A : AA) (x1 x2 x3 : Int32), kb V A x1 x2 x3 → ∀ (H : Heap) (locs : List Loc), HM g V A H → va_S (HA g) s.heap H locs → ∀ (ls : Array Slot), lv_has ls 5 [(0, .ref (mh g)), (1, .int x1), (2, .int x2), (3, .int x3)] → W p l e rm9_settles s m args below meth c H locs 0 0 (MQ below (MQv g post) args s 0 0 (HA g)) (F0 m 9 ls [])) : ∀ (V : VV) (A : AA) (x1 x2 x3 : Int32), w9_settles_91 post kb V A x1 x2 x3 → ∀ (H : Heap) (locs : List Loc), HM g V A H → va_S (HA g) s.heap H locs → ∀ (ls : Array Slot), lv_has ls 5 [(0, .ref (mh g)), (1, .int x1), (2, .int x2), (3, .int x3)] → W p l e rm9_settles s m args below meth c H locs 0 0 (MQ below (MQv g post) args s 0 0 (HA g)) (F0 m 91 ls []) := by
  have hx := S.1
  have hb := S.2.1
  have hown := S.2.2.2.1
  have hts := S.2.2.2.2
  intro V A x1 x2 x3 hw H locs hM hS ls hl
  unfold w9_settles_91 at hw
  refine lv_iconst (v := 1) hx hb dX9_settles_91 (by decide) ?_
  refine lv_goto (tgt := 130) hx hb dX9_settles_92 (by decide) ?_
  exact r9_settles_130 S hr hlocks hK hI hkb _ _ _ _ _ _ hw _ _ hM hS _ (lv_sub hl [0, 1, 2, 3] rfl)
def w9_settles_76 (post : VV → AA → Prop) (kb : VV → AA → Int32 → Int32 → Int32 → Prop) (V : VV) (A : AA) (x1 x2 x3 : Int32) : Prop :=
  vp_in x2 60 ∧ (vp_in x1 69 ∧ (((A 5 x1.toNatClampNeg) ≤ (A 40 x2.toNatClampNeg) → w9_settles_130 post kb V A x1 x2 x3 0) ∧ (¬ (A 5 x1.toNatClampNeg) ≤ (A 40 x2.toNatClampNeg) → w9_settles_91 post kb V A x1 x2 x3)))
set_option maxHeartbeats 4000000 in
set_option maxRecDepth 100000 in
theorem r9_settles_76 {p : Program} {l : Launch} {e : Env} {s : State} {m : MethodId} {args : Array Value} {below : List Frame} {meth : Method} {c : Code} {g : MG} (S : CallFix p m c cX9_settles 5 s args lw_all RX9) (hr : meth.sig.returnType = none) (hlocks : meth.locks = false) (hK : KM g s) (hI : HI g) {post : VV → AA → Prop} {kb : VV → AA → Int32 → Int32 → Int32 → Prop} (hkb : ∀ (V : VV) (A : AA) (x1 x2 x3 : Int32), kb V A x1 x2 x3 → ∀ (H : Heap) (locs : List Loc), HM g V A H → va_S (HA g) s.heap H locs → ∀ (ls : Array Slot), lv_has ls 5 [(0, .ref (mh g)), (1, .int x1), (2, .int x2), (3, .int x3)] → W p l e rm9_settles s m args below meth c H locs 0 0 (MQ below (MQv g post) args s 0 0 (HA g)) (F0 m 9 ls [])) : ∀ (V : VV) (A : AA) (x1 x2 x3 : Int32), w9_settles_76 post kb V A x1 x2 x3 → ∀ (H : Heap) (locs : List Loc), HM g V A H → va_S (HA g) s.heap H locs → ∀ (ls : Array Slot), lv_has ls 5 [(0, .ref (mh g)), (1, .int x1), (2, .int x2), (3, .int x3)] → W p l e rm9_settles s m args below meth c H locs 0 0 (MQ below (MQv g post) args s 0 0 (HA g)) (F0 m 76 ls []) := by
  have hx := S.1
  have hb := S.2.1
  have hown := S.2.2.2.1
  have hts := S.2.2.2.2
  intro V A x1 x2 x3 hw H locs hM hS ls hl
  unfold w9_settles_76 at hw
  refine lv_aload_n hx hb dX9_settles_76 rfl (lv_at hl 0 rfl) ?_
  refine mo_geta S hK hM 40 (by decide) q819 dX9_settles_77 rfl ?_
  refine lv_iload_n hx hb dX9_settles_80 rfl (lv_at hl 2 rfl) ?_
  have hin := hw.1
  have hw := hw.2
  refine mo_ald S hK hM 40 rfl hin dX9_settles_81 ?_
  refine lv_aload_n hx hb dX9_settles_82 rfl (lv_at hl 0 rfl) ?_
  refine mo_geta S hK hM 5 (by decide) q784 dX9_settles_83 rfl ?_
  refine lv_iload_n hx hb dX9_settles_86 rfl (lv_at hl 1 rfl) ?_
  have hin := hw.1
  have hw := hw.2
  refine mo_ald S hK hM 5 rfl hin dX9_settles_87 ?_
  refine lv_icmp_ge (tgt := 95) hx hb dX9_settles_88 (by decide) (fun c12 => ?_) (fun c12 => ?_)
  · have hw := hw.1 c12
    refine lv_iconst (v := 0) hx hb dX9_settles_95 (by decide) ?_
    refine lv_goto (tgt := 130) hx hb dX9_settles_96 (by decide) ?_
    exact r9_settles_130 S hr hlocks hK hI hkb _ _ _ _ _ _ hw _ _ hM hS _ (lv_sub hl [0, 1, 2, 3] rfl)
  · have hw := hw.2 c12
    exact r9_settles_91 S hr hlocks hK hI hkb _ _ _ _ _ hw _ _ hM hS _ (lv_sub hl [0, 1, 2, 3] rfl)
def b9_settles_9 (post : VV → AA → Prop) (k182 : VV → AA → Int32 → Int32 → Prop) (kb : VV → AA → Int32 → Int32 → Int32 → Prop) (V : VV) (A : AA) (x1 x2 x3 : Int32) : Prop :=
  ((V 37) ≤ x2 → k182 V A x2 x3) ∧ (¬ (V 37) ≤ x2 → (x3 = 0 → vp_in x2 60 ∧ (vp_in x1 69 ∧ (((A 5 x1.toNatClampNeg) < (A 40 x2.toNatClampNeg) → k182 V A x2 x3) ∧ (¬ (A 5 x1.toNatClampNeg) < (A 40 x2.toNatClampNeg) → vp_in x2 60 ∧ (((A 42 x2.toNatClampNeg) = (-1) → vp_in x2 60 ∧ (vp_in x1 69 ∧ (((A 44 x2.toNatClampNeg) = (A 2 x1.toNatClampNeg) → vp_in x2 60 ∧ (vp_in x1 69 ∧ (((A 45 x2.toNatClampNeg) = (A 3 x1.toNatClampNeg) → w9_settles_91 post kb V A x1 x2 x3) ∧ (¬ (A 45 x2.toNatClampNeg) = (A 3 x1.toNatClampNeg) → w9_settles_76 post kb V A x1 x2 x3)))) ∧ (¬ (A 44 x2.toNatClampNeg) = (A 2 x1.toNatClampNeg) → w9_settles_76 post kb V A x1 x2 x3)))) ∧ (¬ (A 42 x2.toNatClampNeg) = (-1) → vp_in x2 60 ∧ (vp_in ((192 * x1) + (A 42 x2.toNatClampNeg)) 13248 ∧ (vp_in x2 60 ∧ (((A 0 ((192 * x1) + (A 42 x2.toNatClampNeg)).toNatClampNeg) = (A 43 x2.toNatClampNeg) → w9_settles_130 post kb V A x1 x2 x3 1) ∧ (¬ (A 0 ((192 * x1) + (A 42 x2.toNatClampNeg)).toNatClampNeg) = (A 43 x2.toNatClampNeg) → w9_settles_130 post kb V A x1 x2 x3 0)))))))))) ∧ (¬ x3 = 0 → k182 V A x2 x3))
def w9_settles_9 (post : VV → AA → Prop) (k182 : VV → AA → Int32 → Int32 → Prop) : Nat → VV → AA → Int32 → Int32 → Int32 → Prop
  | 0 => fun _ _ _ _ _ => False
  | n + 1 => b9_settles_9 post k182 (w9_settles_9 post k182 n)
set_option maxHeartbeats 4000000 in
set_option maxRecDepth 100000 in
theorem r9_settles_9 {p : Program} {l : Launch} {e : Env} {s : State} {m : MethodId} {args : Array Value} {below : List Frame} {meth : Method} {c : Code} {g : MG} (S : CallFix p m c cX9_settles 5 s args lw_all RX9) (hr : meth.sig.returnType = none) (hlocks : meth.locks = false) (hK : KM g s) (hI : HI g) {post : VV → AA → Prop} {k182 : VV → AA → Int32 → Int32 → Prop} (hk182 : ∀ (V : VV) (A : AA) (x2 x3 : Int32), k182 V A x2 x3 → ∀ (H : Heap) (locs : List Loc), HM g V A H → va_S (HA g) s.heap H locs → ∀ (ls : Array Slot), lv_has ls 5 [(0, .ref (mh g)), (2, .int x2), (3, .int x3)] → W p l e rm9_settles s m args below meth c H locs 0 0 (MQ below (MQv g post) args s 0 0 (HA g)) (F0 m 182 ls [])) : ∀ n : Nat, ∀ (V : VV) (A : AA) (x1 x2 x3 : Int32), w9_settles_9 post k182 n V A x1 x2 x3 → ∀ (H : Heap) (locs : List Loc), HM g V A H → va_S (HA g) s.heap H locs → ∀ (ls : Array Slot), lv_has ls 5 [(0, .ref (mh g)), (1, .int x1), (2, .int x2), (3, .int x3)] → W p l e rm9_settles s m args below meth c H locs 0 0 (MQ below (MQv g post) args s 0 0 (HA g)) (F0 m 9 ls []) := by
  have hx := S.1
  have hb := S.2.1
  have hown := S.2.2.2.1
  have hts := S.2.2.2.2
  intro n
  induction n with
  | zero =>
    intro V A x1 x2 x3 hw
    exact hw.elim
  | succ n hkb =>
    intro V A x1 x2 x3 hw H locs hM hS ls hl
    unfold w9_settles_9 b9_settles_9 at hw
    refine lv_iload_n hx hb dX9_settles_9 rfl (lv_at hl 2 rfl) ?_
    refine lv_aload_n hx hb dX9_settles_10 rfl (lv_at hl 0 rfl) ?_
    refine mo_geti S hK hM 37 (by decide) q816 dX9_settles_11 rfl ?_
    refine lv_icmp_ge (tgt := 182) hx hb dX9_settles_14 (by decide) (fun c4 => ?_) (fun c4 => ?_)
    · have hw := hw.1 c4
      exact hk182 _ _ _ _ hw _ _ hM hS _ (lv_sub hl [0, 2, 3] rfl)
    · have hw := hw.2 c4
      refine lv_iload_n hx hb dX9_settles_17 rfl (lv_at hl 3 rfl) ?_
      refine lv_if_ne (tgt := 182) hx hb dX9_settles_18 (by decide) (fun c5 => ?_) (fun c5 => ?_)
      · have hw := hw.2 c5
        exact hk182 _ _ _ _ hw _ _ hM hS _ (lv_sub hl [0, 2, 3] rfl)
      · have hw := hw.1 c5
        refine lv_aload_n hx hb dX9_settles_21 rfl (lv_at hl 0 rfl) ?_
        refine mo_geta S hK hM 40 (by decide) q819 dX9_settles_22 rfl ?_
        refine lv_iload_n hx hb dX9_settles_25 rfl (lv_at hl 2 rfl) ?_
        have hin := hw.1
        have hw := hw.2
        refine mo_ald S hK hM 40 rfl hin dX9_settles_26 ?_
        refine lv_aload_n hx hb dX9_settles_27 rfl (lv_at hl 0 rfl) ?_
        refine mo_geta S hK hM 5 (by decide) q784 dX9_settles_28 rfl ?_
        refine lv_iload_n hx hb dX9_settles_31 rfl (lv_at hl 1 rfl) ?_
        have hin := hw.1
        have hw := hw.2
        refine mo_ald S hK hM 5 rfl hin dX9_settles_32 ?_
        refine lv_icmp_gt (tgt := 182) hx hb dX9_settles_33 (by decide) (fun c6 => ?_) (fun c6 => ?_)
        · have hw := hw.1 c6
          exact hk182 _ _ _ _ hw _ _ hM hS _ (lv_sub hl [0, 2, 3] rfl)
        · have hw := hw.2 c6
          refine lv_aload_n hx hb dX9_settles_36 rfl (lv_at hl 0 rfl) ?_
          refine mo_geta S hK hM 42 (by decide) q821 dX9_settles_37 rfl ?_
          refine lv_iload_n hx hb dX9_settles_40 rfl (lv_at hl 2 rfl) ?_
          have hin := hw.1
          have hw := hw.2
          refine mo_ald S hK hM 42 rfl hin dX9_settles_41 ?_
          refine lv_iconst (v := (-1)) hx hb dX9_settles_42 (by decide) ?_
          refine lv_icmp_ne (tgt := 99) hx hb dX9_settles_43 (by decide) (fun c7 => ?_) (fun c7 => ?_)
          · have hw := hw.2 c7
            refine lv_aload_n hx hb dX9_settles_99 rfl (lv_at hl 0 rfl) ?_
            refine mo_geta S hK hM 0 (by decide) q779 dX9_settles_100 rfl ?_
            refine lv_sipush (v := 192) hx hb dX9_settles_103 (by decide) ?_
            refine lv_iload_n hx hb dX9_settles_106 rfl (lv_at hl 1 rfl) ?_
            refine lv_imul hx hb dX9_settles_107 ?_
            refine lv_aload_n hx hb dX9_settles_108 rfl (lv_at hl 0 rfl) ?_
            refine mo_geta S hK hM 42 (by decide) q821 dX9_settles_109 rfl ?_
            refine lv_iload_n hx hb dX9_settles_112 rfl (lv_at hl 2 rfl) ?_
            have hin := hw.1
            have hw := hw.2
            refine mo_ald S hK hM 42 rfl hin dX9_settles_113 ?_
            refine lv_iadd hx hb dX9_settles_114 ?_
            have hin := hw.1
            have hw := hw.2
            refine mo_ald S hK hM 0 rfl hin dX9_settles_115 ?_
            refine lv_aload_n hx hb dX9_settles_116 rfl (lv_at hl 0 rfl) ?_
            refine mo_geta S hK hM 43 (by decide) q822 dX9_settles_117 rfl ?_
            refine lv_iload_n hx hb dX9_settles_120 rfl (lv_at hl 2 rfl) ?_
            have hin := hw.1
            have hw := hw.2
            refine mo_ald S hK hM 43 rfl hin dX9_settles_121 ?_
            refine lv_icmp_ne (tgt := 129) hx hb dX9_settles_122 (by decide) (fun c8 => ?_) (fun c8 => ?_)
            · have hw := hw.2 c8
              refine lv_iconst (v := 0) hx hb dX9_settles_129 (by decide) ?_
              exact r9_settles_130 S hr hlocks hK hI hkb _ _ _ _ _ _ hw _ _ hM hS _ (lv_sub hl [0, 1, 2, 3] rfl)
            · have hw := hw.1 c8
              refine lv_iconst (v := 1) hx hb dX9_settles_125 (by decide) ?_
              refine lv_goto (tgt := 130) hx hb dX9_settles_126 (by decide) ?_
              exact r9_settles_130 S hr hlocks hK hI hkb _ _ _ _ _ _ hw _ _ hM hS _ (lv_sub hl [0, 1, 2, 3] rfl)
          · have hw := hw.1 c7
            refine lv_aload_n hx hb dX9_settles_46 rfl (lv_at hl 0 rfl) ?_
            refine mo_geta S hK hM 44 (by decide) q823 dX9_settles_47 rfl ?_
            refine lv_iload_n hx hb dX9_settles_50 rfl (lv_at hl 2 rfl) ?_
            have hin := hw.1
            have hw := hw.2
            refine mo_ald S hK hM 44 rfl hin dX9_settles_51 ?_
            refine lv_aload_n hx hb dX9_settles_52 rfl (lv_at hl 0 rfl) ?_
            refine mo_geta S hK hM 2 (by decide) q781 dX9_settles_53 rfl ?_
            refine lv_iload_n hx hb dX9_settles_56 rfl (lv_at hl 1 rfl) ?_
            have hin := hw.1
            have hw := hw.2
            refine mo_ald S hK hM 2 rfl hin dX9_settles_57 ?_
            refine lv_icmp_ne (tgt := 76) hx hb dX9_settles_58 (by decide) (fun c11 => ?_) (fun c11 => ?_)
            · have hw := hw.2 c11
              exact r9_settles_76 S hr hlocks hK hI hkb _ _ _ _ _ hw _ _ hM hS _ (lv_sub hl [0, 1, 2, 3] rfl)
            · have hw := hw.1 c11
              refine lv_aload_n hx hb dX9_settles_61 rfl (lv_at hl 0 rfl) ?_
              refine mo_geta S hK hM 45 (by decide) q824 dX9_settles_62 rfl ?_
              refine lv_iload_n hx hb dX9_settles_65 rfl (lv_at hl 2 rfl) ?_
              have hin := hw.1
              have hw := hw.2
              refine mo_ald S hK hM 45 rfl hin dX9_settles_66 ?_
              refine lv_aload_n hx hb dX9_settles_67 rfl (lv_at hl 0 rfl) ?_
              refine mo_geta S hK hM 3 (by decide) q782 dX9_settles_68 rfl ?_
              refine lv_iload_n hx hb dX9_settles_71 rfl (lv_at hl 1 rfl) ?_
              have hin := hw.1
              have hw := hw.2
              refine mo_ald S hK hM 3 rfl hin dX9_settles_72 ?_
              refine lv_icmp_eq (tgt := 91) hx hb dX9_settles_73 (by decide) (fun c13 => ?_) (fun c13 => ?_)
              · have hw := hw.1 c13
                exact r9_settles_91 S hr hlocks hK hI hkb _ _ _ _ _ hw _ _ hM hS _ (lv_sub hl [0, 1, 2, 3] rfl)
              · have hw := hw.2 c13
                exact r9_settles_76 S hr hlocks hK hI hkb _ _ _ _ _ hw _ _ hM hS _ (lv_sub hl [0, 1, 2, 3] rfl)
def b9_settles_232 (post : VV → AA → Prop) (k349 : VV → AA → Int32 → Prop) (kb : VV → AA → Int32 → Int32 → Prop) (V : VV) (A : AA) (x2 x4 : Int32) : Prop :=
  ((V 37) ≤ (x4 + x2) → k349 V A x2) ∧ (¬ (V 37) ≤ (x4 + x2) → (x2 ≤ 0 → k349 V A x2) ∧ (¬ x2 ≤ 0 → vp_in (x4 + x2) 60 ∧ (vp_in x4 60 ∧ (vp_in (x4 + x2) 60 ∧ (vp_in x4 60 ∧ (vp_in (x4 + x2) 60 ∧ (vp_in x4 60 ∧ (vp_in (x4 + x2) 60 ∧ (vp_in x4 60 ∧ (vp_in (x4 + x2) 60 ∧ (vp_in x4 60 ∧ (vp_in (x4 + x2) 60 ∧ (vp_in x4 60 ∧ kb V (au (au (au (au (au (au A 40 x4.toNatClampNeg (A 40 (x4 + x2).toNatClampNeg)) 41 x4.toNatClampNeg ((au A 40 x4.toNatClampNeg (A 40 (x4 + x2).toNatClampNeg)) 41 (x4 + x2).toNatClampNeg)) 42 x4.toNatClampNeg ((au (au A 40 x4.toNatClampNeg (A 40 (x4 + x2).toNatClampNeg)) 41 x4.toNatClampNeg ((au A 40 x4.toNatClampNeg (A 40 (x4 + x2).toNatClampNeg)) 41 (x4 + x2).toNatClampNeg)) 42 (x4 + x2).toNatClampNeg)) 43 x4.toNatClampNeg ((au (au (au A 40 x4.toNatClampNeg (A 40 (x4 + x2).toNatClampNeg)) 41 x4.toNatClampNeg ((au A 40 x4.toNatClampNeg (A 40 (x4 + x2).toNatClampNeg)) 41 (x4 + x2).toNatClampNeg)) 42 x4.toNatClampNeg ((au (au A 40 x4.toNatClampNeg (A 40 (x4 + x2).toNatClampNeg)) 41 x4.toNatClampNeg ((au A 40 x4.toNatClampNeg (A 40 (x4 + x2).toNatClampNeg)) 41 (x4 + x2).toNatClampNeg)) 42 (x4 + x2).toNatClampNeg)) 43 (x4 + x2).toNatClampNeg)) 44 x4.toNatClampNeg ((au (au (au (au A 40 x4.toNatClampNeg (A 40 (x4 + x2).toNatClampNeg)) 41 x4.toNatClampNeg ((au A 40 x4.toNatClampNeg (A 40 (x4 + x2).toNatClampNeg)) 41 (x4 + x2).toNatClampNeg)) 42 x4.toNatClampNeg ((au (au A 40 x4.toNatClampNeg (A 40 (x4 + x2).toNatClampNeg)) 41 x4.toNatClampNeg ((au A 40 x4.toNatClampNeg (A 40 (x4 + x2).toNatClampNeg)) 41 (x4 + x2).toNatClampNeg)) 42 (x4 + x2).toNatClampNeg)) 43 x4.toNatClampNeg ((au (au (au A 40 x4.toNatClampNeg (A 40 (x4 + x2).toNatClampNeg)) 41 x4.toNatClampNeg ((au A 40 x4.toNatClampNeg (A 40 (x4 + x2).toNatClampNeg)) 41 (x4 + x2).toNatClampNeg)) 42 x4.toNatClampNeg ((au (au A 40 x4.toNatClampNeg (A 40 (x4 + x2).toNatClampNeg)) 41 x4.toNatClampNeg ((au A 40 x4.toNatClampNeg (A 40 (x4 + x2).toNatClampNeg)) 41 (x4 + x2).toNatClampNeg)) 42 (x4 + x2).toNatClampNeg)) 43 (x4 + x2).toNatClampNeg)) 44 (x4 + x2).toNatClampNeg)) 45 x4.toNatClampNeg ((au (au (au (au (au A 40 x4.toNatClampNeg (A 40 (x4 + x2).toNatClampNeg)) 41 x4.toNatClampNeg ((au A 40 x4.toNatClampNeg (A 40 (x4 + x2).toNatClampNeg)) 41 (x4 + x2).toNatClampNeg)) 42 x4.toNatClampNeg ((au (au A 40 x4.toNatClampNeg (A 40 (x4 + x2).toNatClampNeg)) 41 x4.toNatClampNeg ((au A 40 x4.toNatClampNeg (A 40 (x4 + x2).toNatClampNeg)) 41 (x4 + x2).toNatClampNeg)) 42 (x4 + x2).toNatClampNeg)) 43 x4.toNatClampNeg ((au (au (au A 40 x4.toNatClampNeg (A 40 (x4 + x2).toNatClampNeg)) 41 x4.toNatClampNeg ((au A 40 x4.toNatClampNeg (A 40 (x4 + x2).toNatClampNeg)) 41 (x4 + x2).toNatClampNeg)) 42 x4.toNatClampNeg ((au (au A 40 x4.toNatClampNeg (A 40 (x4 + x2).toNatClampNeg)) 41 x4.toNatClampNeg ((au A 40 x4.toNatClampNeg (A 40 (x4 + x2).toNatClampNeg)) 41 (x4 + x2).toNatClampNeg)) 42 (x4 + x2).toNatClampNeg)) 43 (x4 + x2).toNatClampNeg)) 44 x4.toNatClampNeg ((au (au (au (au A 40 x4.toNatClampNeg (A 40 (x4 + x2).toNatClampNeg)) 41 x4.toNatClampNeg ((au A 40 x4.toNatClampNeg (A 40 (x4 + x2).toNatClampNeg)) 41 (x4 + x2).toNatClampNeg)) 42 x4.toNatClampNeg ((au (au A 40 x4.toNatClampNeg (A 40 (x4 + x2).toNatClampNeg)) 41 x4.toNatClampNeg ((au A 40 x4.toNatClampNeg (A 40 (x4 + x2).toNatClampNeg)) 41 (x4 + x2).toNatClampNeg)) 42 (x4 + x2).toNatClampNeg)) 43 x4.toNatClampNeg ((au (au (au A 40 x4.toNatClampNeg (A 40 (x4 + x2).toNatClampNeg)) 41 x4.toNatClampNeg ((au A 40 x4.toNatClampNeg (A 40 (x4 + x2).toNatClampNeg)) 41 (x4 + x2).toNatClampNeg)) 42 x4.toNatClampNeg ((au (au A 40 x4.toNatClampNeg (A 40 (x4 + x2).toNatClampNeg)) 41 x4.toNatClampNeg ((au A 40 x4.toNatClampNeg (A 40 (x4 + x2).toNatClampNeg)) 41 (x4 + x2).toNatClampNeg)) 42 (x4 + x2).toNatClampNeg)) 43 (x4 + x2).toNatClampNeg)) 44 (x4 + x2).toNatClampNeg)) 45 (x4 + x2).toNatClampNeg)) x2 (x4 + 1))))))))))))))
def w9_settles_232 (post : VV → AA → Prop) (k349 : VV → AA → Int32 → Prop) : Nat → VV → AA → Int32 → Int32 → Prop
  | 0 => fun _ _ _ _ => False
  | n + 1 => b9_settles_232 post k349 (w9_settles_232 post k349 n)
set_option maxHeartbeats 4000000 in
set_option maxRecDepth 100000 in
theorem r9_settles_232 {p : Program} {l : Launch} {e : Env} {s : State} {m : MethodId} {args : Array Value} {below : List Frame} {meth : Method} {c : Code} {g : MG} (S : CallFix p m c cX9_settles 5 s args lw_all RX9) (hr : meth.sig.returnType = none) (hlocks : meth.locks = false) (hK : KM g s) (hI : HI g) {post : VV → AA → Prop} {k349 : VV → AA → Int32 → Prop} (hk349 : ∀ (V : VV) (A : AA) (x2 : Int32), k349 V A x2 → ∀ (H : Heap) (locs : List Loc), HM g V A H → va_S (HA g) s.heap H locs → ∀ (ls : Array Slot), lv_has ls 5 [(0, .ref (mh g)), (2, .int x2)] → W p l e rm9_settles s m args below meth c H locs 0 0 (MQ below (MQv g post) args s 0 0 (HA g)) (F0 m 349 ls [])) : ∀ n : Nat, ∀ (V : VV) (A : AA) (x2 x4 : Int32), w9_settles_232 post k349 n V A x2 x4 → ∀ (H : Heap) (locs : List Loc), HM g V A H → va_S (HA g) s.heap H locs → ∀ (ls : Array Slot), lv_has ls 5 [(0, .ref (mh g)), (2, .int x2), (4, .int x4)] → W p l e rm9_settles s m args below meth c H locs 0 0 (MQ below (MQv g post) args s 0 0 (HA g)) (F0 m 232 ls []) := by
  have hx := S.1
  have hb := S.2.1
  have hown := S.2.2.2.1
  have hts := S.2.2.2.2
  intro n
  induction n with
  | zero =>
    intro V A x2 x4 hw
    exact hw.elim
  | succ n hkb =>
    intro V A x2 x4 hw H locs hM hS ls hl
    unfold w9_settles_232 b9_settles_232 at hw
    refine lv_iload hx hb dX9_settles_232 (lv_at hl 2 rfl) ?_
    refine lv_iload_n hx hb dX9_settles_234 rfl (lv_at hl 1 rfl) ?_
    refine lv_iadd hx hb dX9_settles_235 ?_
    refine lv_aload_n hx hb dX9_settles_236 rfl (lv_at hl 0 rfl) ?_
    refine mo_geti S hK hM 37 (by decide) q816 dX9_settles_237 rfl ?_
    refine lv_icmp_ge (tgt := 349) hx hb dX9_settles_240 (by decide) (fun c19 => ?_) (fun c19 => ?_)
    · have hw := hw.1 c19
      exact hk349 _ _ _ hw _ _ hM hS _ (lv_sub hl [0, 1] rfl)
    · have hw := hw.2 c19
      refine lv_iload_n hx hb dX9_settles_243 rfl (lv_at hl 1 rfl) ?_
      refine lv_if_le (tgt := 349) hx hb dX9_settles_244 (by decide) (fun c20 => ?_) (fun c20 => ?_)
      · have hw := hw.1 c20
        exact hk349 _ _ _ hw _ _ hM hS _ (lv_sub hl [0, 1] rfl)
      · have hw := hw.2 c20
        refine lv_aload_n hx hb dX9_settles_247 rfl (lv_at hl 0 rfl) ?_
        refine mo_geta S hK hM 40 (by decide) q819 dX9_settles_248 rfl ?_
        refine lv_iload hx hb dX9_settles_251 (lv_at hl 2 rfl) ?_
        refine lv_aload_n hx hb dX9_settles_253 rfl (lv_at hl 0 rfl) ?_
        refine mo_geta S hK hM 40 (by decide) q819 dX9_settles_254 rfl ?_
        refine lv_iload hx hb dX9_settles_257 (lv_at hl 2 rfl) ?_
        refine lv_iload_n hx hb dX9_settles_259 rfl (lv_at hl 1 rfl) ?_
        refine lv_iadd hx hb dX9_settles_260 ?_
        have hin := hw.1
        have hw := hw.2
        refine mo_ald S hK hM 40 rfl hin dX9_settles_261 ?_
        have hin := hw.1
        have hw := hw.2
        refine mo_ast S hK hI hM hS 40 rfl hin dX9_settles_262 (fun H locs hM hS => ?_)
        refine lv_aload_n hx hb dX9_settles_263 rfl (lv_at hl 0 rfl) ?_
        refine mo_geta S hK hM 41 (by decide) q820 dX9_settles_264 rfl ?_
        refine lv_iload hx hb dX9_settles_267 (lv_at hl 2 rfl) ?_
        refine lv_aload_n hx hb dX9_settles_269 rfl (lv_at hl 0 rfl) ?_
        refine mo_geta S hK hM 41 (by decide) q820 dX9_settles_270 rfl ?_
        refine lv_iload hx hb dX9_settles_273 (lv_at hl 2 rfl) ?_
        refine lv_iload_n hx hb dX9_settles_275 rfl (lv_at hl 1 rfl) ?_
        refine lv_iadd hx hb dX9_settles_276 ?_
        have hin := hw.1
        have hw := hw.2
        refine mo_ald S hK hM 41 rfl hin dX9_settles_277 ?_
        have hin := hw.1
        have hw := hw.2
        refine mo_ast S hK hI hM hS 41 rfl hin dX9_settles_278 (fun H locs hM hS => ?_)
        refine lv_aload_n hx hb dX9_settles_279 rfl (lv_at hl 0 rfl) ?_
        refine mo_geta S hK hM 42 (by decide) q821 dX9_settles_280 rfl ?_
        refine lv_iload hx hb dX9_settles_283 (lv_at hl 2 rfl) ?_
        refine lv_aload_n hx hb dX9_settles_285 rfl (lv_at hl 0 rfl) ?_
        refine mo_geta S hK hM 42 (by decide) q821 dX9_settles_286 rfl ?_
        refine lv_iload hx hb dX9_settles_289 (lv_at hl 2 rfl) ?_
        refine lv_iload_n hx hb dX9_settles_291 rfl (lv_at hl 1 rfl) ?_
        refine lv_iadd hx hb dX9_settles_292 ?_
        have hin := hw.1
        have hw := hw.2
        refine mo_ald S hK hM 42 rfl hin dX9_settles_293 ?_
        have hin := hw.1
        have hw := hw.2
        refine mo_ast S hK hI hM hS 42 rfl hin dX9_settles_294 (fun H locs hM hS => ?_)
        refine lv_aload_n hx hb dX9_settles_295 rfl (lv_at hl 0 rfl) ?_
        refine mo_geta S hK hM 43 (by decide) q822 dX9_settles_296 rfl ?_
        refine lv_iload hx hb dX9_settles_299 (lv_at hl 2 rfl) ?_
        refine lv_aload_n hx hb dX9_settles_301 rfl (lv_at hl 0 rfl) ?_
        refine mo_geta S hK hM 43 (by decide) q822 dX9_settles_302 rfl ?_
        refine lv_iload hx hb dX9_settles_305 (lv_at hl 2 rfl) ?_
        refine lv_iload_n hx hb dX9_settles_307 rfl (lv_at hl 1 rfl) ?_
        refine lv_iadd hx hb dX9_settles_308 ?_
        have hin := hw.1
        have hw := hw.2
        refine mo_ald S hK hM 43 rfl hin dX9_settles_309 ?_
        have hin := hw.1
        have hw := hw.2
        refine mo_ast S hK hI hM hS 43 rfl hin dX9_settles_310 (fun H locs hM hS => ?_)
        refine lv_aload_n hx hb dX9_settles_311 rfl (lv_at hl 0 rfl) ?_
        refine mo_geta S hK hM 44 (by decide) q823 dX9_settles_312 rfl ?_
        refine lv_iload hx hb dX9_settles_315 (lv_at hl 2 rfl) ?_
        refine lv_aload_n hx hb dX9_settles_317 rfl (lv_at hl 0 rfl) ?_
        refine mo_geta S hK hM 44 (by decide) q823 dX9_settles_318 rfl ?_
        refine lv_iload hx hb dX9_settles_321 (lv_at hl 2 rfl) ?_
        refine lv_iload_n hx hb dX9_settles_323 rfl (lv_at hl 1 rfl) ?_
        refine lv_iadd hx hb dX9_settles_324 ?_
        have hin := hw.1
        have hw := hw.2
        refine mo_ald S hK hM 44 rfl hin dX9_settles_325 ?_
        have hin := hw.1
        have hw := hw.2
        refine mo_ast S hK hI hM hS 44 rfl hin dX9_settles_326 (fun H locs hM hS => ?_)
        refine lv_aload_n hx hb dX9_settles_327 rfl (lv_at hl 0 rfl) ?_
        refine mo_geta S hK hM 45 (by decide) q824 dX9_settles_328 rfl ?_
        refine lv_iload hx hb dX9_settles_331 (lv_at hl 2 rfl) ?_
        refine lv_aload_n hx hb dX9_settles_333 rfl (lv_at hl 0 rfl) ?_
        refine mo_geta S hK hM 45 (by decide) q824 dX9_settles_334 rfl ?_
        refine lv_iload hx hb dX9_settles_337 (lv_at hl 2 rfl) ?_
        refine lv_iload_n hx hb dX9_settles_339 rfl (lv_at hl 1 rfl) ?_
        refine lv_iadd hx hb dX9_settles_340 ?_
        have hin := hw.1
        have hw := hw.2
        refine mo_ald S hK hM 45 rfl hin dX9_settles_341 ?_
        have hin := hw.1
        have hw := hw.2
        refine mo_ast S hK hI hM hS 45 rfl hin dX9_settles_342 (fun H locs hM hS => ?_)
        refine lv_iinc (v := x4 + 1) (lv' := [(4, .int (x4 + 1)), (0, .ref (mh g)), (2, .int x2)]) hx hb dX9_settles_343 hl (k := 2) rfl rfl (by decide) rfl (fun ls hl => ?_)
        refine lv_goto (tgt := 232) hx hb dX9_settles_346 (by decide) ?_
        exact hkb _ _ _ _ hw _ _ hM hS _ (lv_sub hl [1, 2, 0] rfl)
def w9_settles_349 (post : VV → AA → Prop)  (V : VV) (A : AA) (x2 : Int32) : Prop :=
  post (vu V 37 ((V 37) - x2)) A
set_option maxHeartbeats 4000000 in
set_option maxRecDepth 100000 in
theorem r9_settles_349 {p : Program} {l : Launch} {e : Env} {s : State} {m : MethodId} {args : Array Value} {below : List Frame} {meth : Method} {c : Code} {g : MG} (S : CallFix p m c cX9_settles 5 s args lw_all RX9) (hr : meth.sig.returnType = none) (hlocks : meth.locks = false) (hK : KM g s) (hI : HI g) {post : VV → AA → Prop}  : ∀ (V : VV) (A : AA) (x2 : Int32), w9_settles_349 post  V A x2 → ∀ (H : Heap) (locs : List Loc), HM g V A H → va_S (HA g) s.heap H locs → ∀ (ls : Array Slot), lv_has ls 5 [(0, .ref (mh g)), (2, .int x2)] → W p l e rm9_settles s m args below meth c H locs 0 0 (MQ below (MQv g post) args s 0 0 (HA g)) (F0 m 349 ls []) := by
  have hx := S.1
  have hb := S.2.1
  have hown := S.2.2.2.1
  have hts := S.2.2.2.2
  intro V A x2 hw H locs hM hS ls hl
  unfold w9_settles_349 at hw
  refine lv_aload_n hx hb dX9_settles_349 rfl (lv_at hl 0 rfl) ?_
  refine lv_dup hx hb dX9_settles_350 rfl ?_
  refine mo_geti S hK hM 37 (by decide) q816 dX9_settles_351 rfl ?_
  refine lv_iload_n hx hb dX9_settles_354 rfl (lv_at hl 1 rfl) ?_
  refine lv_isub hx hb dX9_settles_355 ?_
  refine mo_put S hK hI hM hS 37 (by decide) q816 dX9_settles_356 rfl rfl ⟨rfl, rfl⟩ (fun H locs hM hS => ?_)
  exact mo_vret S hr hlocks hM hS hw dX9_settles_359
def w9_settles_182 (post : VV → AA → Prop)  (V : VV) (A : AA) (x2 x3 : Int32) : Prop :=
  (x3 = 0 → ∃ n, w9_settles_232 post (fun (V22 : VV) (A23 : AA) (x2_21 : Int32) => w9_settles_349 post V22 A23 x2_21) n V A x2 0) ∧ (¬ x3 = 0 → vp_in 8 10 ∧ (vp_in 8 10 ∧ (vp_in 9 10 ∧ (vp_in 9 10 ∧ post (vu (vu V 37 0) 39 (((vu V 37 0) 39) + 1)) (au (au A 29 (8 : Int32).toNatClampNeg ((A 29 (8 : Int32).toNatClampNeg) + 1)) 29 (9 : Int32).toNatClampNeg (((au A 29 (8 : Int32).toNatClampNeg ((A 29 (8 : Int32).toNatClampNeg) + 1)) 29 (9 : Int32).toNatClampNeg) + ((V 37) - x2)))))))
set_option maxHeartbeats 4000000 in
set_option maxRecDepth 100000 in
theorem r9_settles_182 {p : Program} {l : Launch} {e : Env} {s : State} {m : MethodId} {args : Array Value} {below : List Frame} {meth : Method} {c : Code} {g : MG} (S : CallFix p m c cX9_settles 5 s args lw_all RX9) (hr : meth.sig.returnType = none) (hlocks : meth.locks = false) (hK : KM g s) (hI : HI g) {post : VV → AA → Prop}  : ∀ (V : VV) (A : AA) (x2 x3 : Int32), w9_settles_182 post  V A x2 x3 → ∀ (H : Heap) (locs : List Loc), HM g V A H → va_S (HA g) s.heap H locs → ∀ (ls : Array Slot), lv_has ls 5 [(0, .ref (mh g)), (2, .int x2), (3, .int x3)] → W p l e rm9_settles s m args below meth c H locs 0 0 (MQ below (MQv g post) args s 0 0 (HA g)) (F0 m 182 ls []) := by
  have hx := S.1
  have hb := S.2.1
  have hown := S.2.2.2.1
  have hts := S.2.2.2.2
  intro V A x2 x3 hw H locs hM hS ls hl
  unfold w9_settles_182 at hw
  refine lv_iload_n hx hb dX9_settles_182 rfl (lv_at hl 2 rfl) ?_
  refine lv_if_eq (tgt := 229) hx hb dX9_settles_183 (by decide) (fun c18 => ?_) (fun c18 => ?_)
  · have hw := hw.1 c18
    refine lv_iconst (v := 0) hx hb dX9_settles_229 (by decide) ?_
    refine lv_istore (lv' := [(4, .int 0), (0, .ref (mh g)), (2, .int x2), (3, .int x3)]) hx hb dX9_settles_230 hl (by decide) rfl (fun ls hl => ?_)
    obtain ⟨n, hw⟩ := hw
    refine r9_settles_232 S hr hlocks hK hI (fun V22 A23 x2_21 hw H locs hM hS ls hl => ?_) n _ _ _ _ hw _ _ hM hS _ (lv_sub hl [1, 2, 0] rfl)
    exact r9_settles_349 S hr hlocks hK hI  _ _ _ hw _ _ hM hS _ (lv_sub hl [0, 1] rfl)
  · have hw := hw.2 c18
    refine lv_aload_n hx hb dX9_settles_186 rfl (lv_at hl 0 rfl) ?_
    refine mo_geta S hK hM 29 (by decide) q808 dX9_settles_187 rfl ?_
    refine lv_bipush (v := 8) hx hb dX9_settles_190 (by decide) ?_
    refine lv_dup2_11 hx hb dX9_settles_192 rfl rfl ?_
    have hin := hw.1
    have hw := hw.2
    refine mo_ald S hK hM 29 rfl hin dX9_settles_193 ?_
    refine lv_iconst (v := 1) hx hb dX9_settles_194 (by decide) ?_
    refine lv_iadd hx hb dX9_settles_195 ?_
    have hin := hw.1
    have hw := hw.2
    refine mo_ast S hK hI hM hS 29 rfl hin dX9_settles_196 (fun H locs hM hS => ?_)
    refine lv_aload_n hx hb dX9_settles_197 rfl (lv_at hl 0 rfl) ?_
    refine mo_geta S hK hM 29 (by decide) q808 dX9_settles_198 rfl ?_
    refine lv_bipush (v := 9) hx hb dX9_settles_201 (by decide) ?_
    refine lv_dup2_11 hx hb dX9_settles_203 rfl rfl ?_
    have hin := hw.1
    have hw := hw.2
    refine mo_ald S hK hM 29 rfl hin dX9_settles_204 ?_
    refine lv_aload_n hx hb dX9_settles_205 rfl (lv_at hl 0 rfl) ?_
    refine mo_geti S hK hM 37 (by decide) q816 dX9_settles_206 rfl ?_
    refine lv_iload_n hx hb dX9_settles_209 rfl (lv_at hl 1 rfl) ?_
    refine lv_isub hx hb dX9_settles_210 ?_
    refine lv_iadd hx hb dX9_settles_211 ?_
    have hin := hw.1
    have hw := hw.2
    refine mo_ast S hK hI hM hS 29 rfl hin dX9_settles_212 (fun H locs hM hS => ?_)
    refine lv_aload_n hx hb dX9_settles_213 rfl (lv_at hl 0 rfl) ?_
    refine lv_iconst (v := 0) hx hb dX9_settles_214 (by decide) ?_
    refine mo_put S hK hI hM hS 37 (by decide) q816 dX9_settles_215 rfl rfl ⟨rfl, rfl⟩ (fun H locs hM hS => ?_)
    refine lv_aload_n hx hb dX9_settles_218 rfl (lv_at hl 0 rfl) ?_
    refine lv_dup hx hb dX9_settles_219 rfl ?_
    refine mo_geti S hK hM 39 (by decide) q818 dX9_settles_220 rfl ?_
    refine lv_iconst (v := 1) hx hb dX9_settles_223 (by decide) ?_
    refine lv_iadd hx hb dX9_settles_224 ?_
    refine mo_put S hK hI hM hS 39 (by decide) q818 dX9_settles_225 rfl rfl ⟨rfl, rfl⟩ (fun H locs hM hS => ?_)
    exact mo_vret S hr hlocks hM hS hw dX9_settles_228
def w9_settles (post : VV → AA → Prop) (V : VV) (A : AA) : Prop :=
  w9_nearNewest (fun (r3 : Int32) (V1 : VV) (A2 : AA) => ∃ n, w9_settles_9 post (fun (V16 : VV) (A17 : AA) (x2_14 x3_15 : Int32) => w9_settles_182 post V16 A17 x2_14 x3_15) n V1 A2 r3 0 0) V A 
set_option maxHeartbeats 4000000 in
set_option maxRecDepth 100000 in
theorem m9_settles (l : Launch) (g : MG) (V : VV) (A : AA) (post : VV → AA → Prop) (hI : HI g) (hw : w9_settles post V A ) : Met l yX9_settles (ws_ yX9_settles cX9_settles 5 none) rm9_settles (MPc g V A [.ref (mh g)]) (MQv g post) 0 0 (HA g) := by
  refine Met.ofW (cc := cX9_settles) (maxL := 5) (ret := none) (by decide) rfl ?_
  intro p e s m args below meth c s₁ B hml hv
  obtain ⟨rfl, hK, hM⟩ := hv
  have hx := B.exec
  have hb := B.bytes
  have hr : meth.sig.returnType = none := B.returns
  have hts := atoms_spec (ws := ws_ yX9_settles cX9_settles 5 none) B.pre
  have hts : ∀ w ∈ lw_all, w.before _ s = true := fun w h => hts w (List.mem_cons_of_mem _ h)
  have hown : s.vm.findClass RX9 = some m.cls := findClass_of_methodNamed B.named
  have hlocks : meth.locks = false := B.notSynchronized
  have S : CallFix p m c cX9_settles 5 s _ lw_all RX9 := ⟨hx, hb, hml, hown, hts⟩
  have hS : va_S (HA g) s.heap s.heap [] := va_S.rf
  have hl := lv_entry ([.ref (mh g)]) (n := 5) (Nat.le_of_ble_eq_true rfl)
  rw [lg_entry_eq]
  generalize (lg_sl ([.ref (mh g)]) ++ List.replicate (5 - (lg_sl ([.ref (mh g)])).length) Slot.unset).toArray = ls at hl ⊢
  have hl : lv_has ls 5 [(0, .ref (mh g))] := hl
  unfold w9_settles at hw
  refine lv_aload_n hx hb dX9_settles_0 rfl (lv_at hl 0 rfl) ?_
  refine mo_calli (As := []) S hK hM hS (m9_nearNewest l g V A  _ hI hw) (cwV 0 hts (lw_V q1029 q1031 qs35 q64 q1032) rfl rfl rfl (by decide +kernel) ⟨Nat.le_of_ble_eq_true rfl, Nat.le_of_ble_eq_true rfl⟩) rfl hl.1 rfl (lv_room (Nat.le_of_ble_eq_true rfl)) dX9_settles_1 ⟨Nat.zero_le _, Nat.zero_le _⟩ (fun r3 V1 A2 H locs hw hM hS => ?_)
  refine lv_istore_n (lv' := [(1, .int r3), (0, .ref (mh g))]) hx hb dX9_settles_4 rfl hl (by decide) rfl (fun ls hl => ?_)
  refine lv_iconst (v := 0) hx hb dX9_settles_5 (by decide) ?_
  refine lv_istore_n (lv' := [(2, .int 0), (1, .int r3), (0, .ref (mh g))]) hx hb dX9_settles_6 rfl hl (by decide) rfl (fun ls hl => ?_)
  refine lv_iconst (v := 0) hx hb dX9_settles_7 (by decide) ?_
  refine lv_istore_n (lv' := [(3, .int 0), (2, .int 0), (1, .int r3), (0, .ref (mh g))]) hx hb dX9_settles_8 rfl hl (by decide) rfl (fun ls hl => ?_)
  obtain ⟨n, hw⟩ := hw
  refine r9_settles_9 S hr hlocks hK hI (fun V16 A17 x2_14 x3_15 hw H locs hM hS ls hl => ?_) n _ _ _ _ _ hw _ _ hM hS _ (lv_sub hl [3, 2, 1, 0] rfl)
  exact r9_settles_182 S hr hlocks hK hI  _ _ _ _ hw _ _ hM hS _ (lv_sub hl [0, 1, 2] rfl)
