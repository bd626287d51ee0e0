/-! FarTypewriterModel.blank(III)V -/
abbrev rm9_blank : Room := { frames := 0, cells := 0, slots := 0, locals := 0 }
def b9_blank_3 (post : VV → AA → Prop)  (kb : VV → AA → Int32 → Int32 → Int32 → Prop) (V : VV) (A : AA) (x1 x3 x4 : Int32) : Prop :=
  (x3 ≤ x4 → post V A) ∧ (¬ x3 ≤ x4 → vp_in ((192 * x1) + x4) 13248 ∧ (vp_in ((192 * x1) + x4) 13248 ∧ kb V (au (au A 0 ((192 * x1) + x4).toNatClampNeg 32) 1 ((192 * x1) + x4).toNatClampNeg 0) x1 x3 (x4 + 1)))
def w9_blank_3 (post : VV → AA → Prop)  : Nat → VV → AA → Int32 → Int32 → Int32 → Prop
  | 0 => fun _ _ _ _ _ => False
  | n + 1 => b9_blank_3 post  (w9_blank_3 post  n)
set_option maxHeartbeats 4000000 in
set_option maxRecDepth 100000 in
theorem r9_blank_3 {p : Program} {l : Launch} {e : Env} {s : State} {m : MethodId} {args : Array Value} {below : List Frame} {meth : Method} {c : Code} {g : MG} (S : CallFix p m c cX9_blank 5 s args lw_all RX9) (hr : meth.sig.returnType = none) (hlocks : meth.locks = false) (hK : KM g s) (hI : HI g) {post : VV → AA → Prop}  : ∀ n : Nat, ∀ (V : VV) (A : AA) (x1 x3 x4 : Int32), w9_blank_3 post  n V A x1 x3 x4 → ∀ (H : Heap) (locs : List Loc), HM g V A H → va_S (HA g) s.heap H locs → ∀ (ls : Array Slot), lv_has ls 5 [(0, .ref (mh g)), (1, .int x1), (3, .int x3), (4, .int x4)] → W p l e rm9_blank s m args below meth c H locs 0 0 (MQ below (MQv g post) args s 0 0 (HA g)) (F0 m 3 ls []) := by
  have hx := S.1
  have hb := S.2.1
  have hown := S.2.2.2.1
  have hts := S.2.2.2.2
  intro n
  induction n with
  | zero =>
    intro V A x1 x3 x4 hw
    exact hw.elim
  | succ n hkb =>
    intro V A x1 x3 x4 hw H locs hM hS ls hl
    unfold w9_blank_3 b9_blank_3 at hw
    refine lv_iload hx hb dX9_blank_3 (lv_at hl 3 rfl) ?_
    refine lv_iload_n hx hb dX9_blank_5 rfl (lv_at hl 2 rfl) ?_
    refine lv_icmp_ge (tgt := 44) hx hb dX9_blank_6 (by decide) (fun c1 => ?_) (fun c1 => ?_)
    · have hw := hw.1 c1
      exact mo_vret S hr hlocks hM hS hw dX9_blank_44
    · have hw := hw.2 c1
      refine lv_aload_n hx hb dX9_blank_9 rfl (lv_at hl 0 rfl) ?_
      refine mo_geta S hK hM 0 (by decide) q779 dX9_blank_10 rfl ?_
      refine lv_sipush (v := 192) hx hb dX9_blank_13 (by decide) ?_
      refine lv_iload_n hx hb dX9_blank_16 rfl (lv_at hl 1 rfl) ?_
      refine lv_imul hx hb dX9_blank_17 ?_
      refine lv_iload hx hb dX9_blank_18 (lv_at hl 3 rfl) ?_
      refine lv_iadd hx hb dX9_blank_20 ?_
      refine lv_bipush (v := 32) hx hb dX9_blank_21 (by decide) ?_
      have hin := hw.1
      have hw := hw.2
      refine mo_ast S hK hI hM hS 0 rfl hin dX9_blank_23 (fun H locs hM hS => ?_)
      refine lv_aload_n hx hb dX9_blank_24 rfl (lv_at hl 0 rfl) ?_
      refine mo_geta S hK hM 1 (by decide) q780 dX9_blank_25 rfl ?_
      refine lv_sipush (v := 192) hx hb dX9_blank_28 (by decide) ?_
      refine lv_iload_n hx hb dX9_blank_31 rfl (lv_at hl 1 rfl) ?_
      refine lv_imul hx hb dX9_blank_32 ?_
      refine lv_iload hx hb dX9_blank_33 (lv_at hl 3 rfl) ?_
      refine lv_iadd hx hb dX9_blank_35 ?_
      refine lv_iconst (v := 0) hx hb dX9_blank_36 (by decide) ?_
      have hin := hw.1
      have hw := hw.2
      refine mo_ast S hK hI hM hS 1 rfl hin dX9_blank_37 (fun H locs hM hS => ?_)
      refine lv_iinc (v := x4 + 1) (lv' := [(4, .int (x4 + 1)), (0, .ref (mh g)), (1, .int x1), (3, .int x3)]) hx hb dX9_blank_38 hl (k := 3) rfl rfl (by decide) rfl (fun ls hl => ?_)
      refine lv_goto (tgt := 3) hx hb dX9_blank_41 (by decide) ?_
      exact hkb _ _ _ _ _ hw _ _ hM hS _ (lv_sub hl [1, 2, 3, 0] rfl)
def w9_blank (post : VV → AA → Prop) (V : VV) (A : AA) (x1 x2 x3 : Int32) : Prop :=
  ∃ n, w9_blank_3 post  n V A x1 x3 x2
set_option maxHeartbeats 4000000 in
set_option maxRecDepth 100000 in
theorem m9_blank (l : Launch) (g : MG) (V : VV) (A : AA) (x1 x2 x3 : Int32) (post : VV → AA → Prop) (hI : HI g) (hw : w9_blank post V A x1 x2 x3) : Met l yX9_blank (ws_ yX9_blank cX9_blank 5 none) rm9_blank (MPc g V A [.ref (mh g), .int x1, .int x2, .int x3]) (MQv g post) 0 0 (HA g) := by
  refine Met.ofW (cc := cX9_blank) (maxL := 5) (ret := none) (by decide) rfl ?_
  intro p e s m args below meth c s₁ B hml hv
  obtain ⟨rfl, hK, hM⟩ := hv
  have hx := B.exec
  have hb := B.bytes
  have hr : meth.sig.returnType = none := B.returns
  have hts := atoms_spec (ws := ws_ yX9_blank cX9_blank 5 none) B.pre
  have hts : ∀ w ∈ lw_all, w.before _ s = true := fun w h => hts w (List.mem_cons_of_mem _ h)
  have hown : s.vm.findClass RX9 = some m.cls := findClass_of_methodNamed B.named
  have hlocks : meth.locks = false := B.notSynchronized
  have S : CallFix p m c cX9_blank 5 s _ lw_all RX9 := ⟨hx, hb, hml, hown, hts⟩
  have hS : va_S (HA g) s.heap s.heap [] := va_S.rf
  have hl := lv_entry ([.ref (mh g), .int x1, .int x2, .int x3]) (n := 5) (Nat.le_of_ble_eq_true rfl)
  rw [lg_entry_eq]
  generalize (lg_sl ([.ref (mh g), .int x1, .int x2, .int x3]) ++ List.replicate (5 - (lg_sl ([.ref (mh g), .int x1, .int x2, .int x3])).length) Slot.unset).toArray = ls at hl ⊢
  have hl : lv_has ls 5 [(0, .ref (mh g)), (1, .int x1), (2, .int x2), (3, .int x3)] := hl
  unfold w9_blank at hw
  refine lv_iload_n hx hb dX9_blank_0 rfl (lv_at hl 2 rfl) ?_
  refine lv_istore (lv' := [(4, .int x2), (0, .ref (mh g)), (1, .int x1), (2, .int x2), (3, .int x3)]) hx hb dX9_blank_1 hl (by decide) rfl (fun ls hl => ?_)
  obtain ⟨n, hw⟩ := hw
  refine r9_blank_3 S hr hlocks hK hI  n _ _ _ _ _ hw _ _ hM hS _ (lv_sub hl [1, 2, 4, 0] rfl)
/-! FarTypewriterModel.begins(III)V -/
abbrev rm9_begins : Room := { frames := 1, cells := 0, slots := 0, locals := 24 }
def b9_begins_18 (post : VV → AA → Prop) (k73 : VV → AA → Prop) (kb : VV → AA → Int32 → Prop) (V : VV) (A : AA) (x4 : Int32) : Prop :=
  (69 ≤ x4 → k73 V A) ∧ (¬ 69 ≤ x4 → w9_blank (fun (V2 : VV) (A3 : AA) => vp_in x4 69 ∧ (vp_in x4 69 ∧ (vp_in x4 69 ∧ (vp_in x4 69 ∧ kb V2 (au (au (au (au A3 2 x4.toNatClampNeg 0) 3 x4.toNatClampNeg 0) 4 x4.toNatClampNeg 0) 5 x4.toNatClampNeg 0) (x4 + 1))))) V A x4 0 192)
def w9_begins_18 (post : VV → AA → Prop) (k73 : VV → AA → Prop) : Nat → VV → AA → Int32 → Prop
  | 0 => fun _ _ _ => False
  | n + 1 => b9_begins_18 post k73 (w9_begins_18 post k73 n)
set_option maxHeartbeats 4000000 in
set_option maxRecDepth 100000 in
theorem r9_begins_18 {p : Program} {l : Launch} {e : Env} {s : State} {m : MethodId} {args : Array Value} {below : List Frame} {meth : Method} {c : Code} {g : MG} (S : CallFix p m c cX9_begins 5 s args lw_all RX9) (hr : meth.sig.returnType = none) (hlocks : meth.locks = false) (hK : KM g s) (hI : HI g) {post : VV → AA → Prop} {k73 : VV → AA → Prop} (hk73 : ∀ (V : VV) (A : AA), k73 V A → ∀ (H : Heap) (locs : List Loc), HM g V A H → va_S (HA g) s.heap H locs → ∀ (ls : Array Slot), lv_has ls 5 [(0, .ref (mh g))] → W p l e rm9_begins s m args below meth c H locs 0 0 (MQ below (MQv g post) args s 0 0 (HA g)) (F0 m 73 ls [])) : ∀ n : Nat, ∀ (V : VV) (A : AA) (x4 : Int32), w9_begins_18 post k73 n V A x4 → ∀ (H : Heap) (locs : List Loc), HM g V A H → va_S (HA g) s.heap H locs → ∀ (ls : Array Slot), lv_has ls 5 [(0, .ref (mh g)), (4, .int x4)] → W p l e rm9_begins s m args below meth c H locs 0 0 (MQ below (MQv g post) args s 0 0 (HA g)) (F0 m 18 ls []) := by
  have hx := S.1
  have hb := S.2.1
  have hown := S.2.2.2.1
  have hts := S.2.2.2.2
  intro n
  induction n with
  | zero =>
    intro V A x4 hw
    exact hw.elim
  | succ n hkb =>
    intro V A x4 hw H locs hM hS ls hl
    unfold w9_begins_18 b9_begins_18 at hw
    refine lv_iload hx hb dX9_begins_18 (lv_at hl 1 rfl) ?_
    refine lv_bipush (v := 69) hx hb dX9_begins_20 (by decide) ?_
    refine lv_icmp_ge (tgt := 73) hx hb dX9_begins_22 (by decide) (fun c1 => ?_) (fun c1 => ?_)
    · have hw := hw.1 c1
      exact hk73 _ _ hw _ _ hM hS _ (lv_sub hl [0] rfl)
    · have hw := hw.2 c1
      refine lv_aload_n hx hb dX9_begins_25 rfl (lv_at hl 0 rfl) ?_
      refine lv_iload hx hb dX9_begins_26 (lv_at hl 1 rfl) ?_
      refine lv_iconst (v := 0) hx hb dX9_begins_28 (by decide) ?_
      refine lv_sipush (v := 192) hx hb dX9_begins_29 (by decide) ?_
      refine mo_callv (As := [.int x4, .int 0, .int 192]) S hK hM hS (m9_blank l g V A x4 0 192 _ hI hw) (cwV 3 hts (lw_V q775 q777 qs16 q64 q778) rfl rfl rfl (by decide +kernel) ⟨Nat.le_of_ble_eq_true rfl, Nat.le_of_ble_eq_true rfl⟩) rfl hl.1 rfl (lv_room (Nat.le_of_ble_eq_true rfl)) dX9_begins_32 ⟨Nat.zero_le _, Nat.zero_le _⟩ (fun V2 A3 H locs hw hM hS => ?_)
      refine lv_aload_n hx hb dX9_begins_35 rfl (lv_at hl 0 rfl) ?_
      refine mo_geta S hK hM 2 (by decide) q781 dX9_begins_36 rfl ?_
      refine lv_iload hx hb dX9_begins_39 (lv_at hl 1 rfl) ?_
      refine lv_iconst (v := 0) hx hb dX9_begins_41 (by decide) ?_
      have hin := hw.1
      have hw := hw.2
      refine mo_ast S hK hI hM hS 2 rfl hin dX9_begins_42 (fun H locs hM hS => ?_)
      refine lv_aload_n hx hb dX9_begins_43 rfl (lv_at hl 0 rfl) ?_
      refine mo_geta S hK hM 3 (by decide) q782 dX9_begins_44 rfl ?_
      refine lv_iload hx hb dX9_begins_47 (lv_at hl 1 rfl) ?_
      refine lv_iconst (v := 0) hx hb dX9_begins_49 (by decide) ?_
      have hin := hw.1
      have hw := hw.2
      refine mo_ast S hK hI hM hS 3 rfl hin dX9_begins_50 (fun H locs hM hS => ?_)
      refine lv_aload_n hx hb dX9_begins_51 rfl (lv_at hl 0 rfl) ?_
      refine mo_geta S hK hM 4 (by decide) q783 dX9_begins_52 rfl ?_
      refine lv_iload hx hb dX9_begins_55 (lv_at hl 1 rfl) ?_
      refine lv_iconst (v := 0) hx hb dX9_begins_57 (by decide) ?_
      have hin := hw.1
      have hw := hw.2
      refine mo_ast S hK hI hM hS 4 rfl hin dX9_begins_58 (fun H locs hM hS => ?_)
      refine lv_aload_n hx hb dX9_begins_59 rfl (lv_at hl 0 rfl) ?_
      refine mo_geta S hK hM 5 (by decide) q784 dX9_begins_60 rfl ?_
      refine lv_iload hx hb dX9_begins_63 (lv_at hl 1 rfl) ?_
      refine lv_iconst (v := 0) hx hb dX9_begins_65 (by decide) ?_
      have hin := hw.1
      have hw := hw.2
      refine mo_ast S hK hI hM hS 5 rfl hin dX9_begins_66 (fun H locs hM hS => ?_)
      refine lv_iinc (v := x4 + 1) (lv' := [(4, .int (x4 + 1)), (0, .ref (mh g))]) hx hb dX9_begins_67 hl (k := 1) rfl rfl (by decide) rfl (fun ls hl => ?_)
      refine lv_goto (tgt := 18) hx hb dX9_begins_70 (by decide) ?_
      exact hkb _ _ _ hw _ _ hM hS _ (lv_sub hl [1, 0] rfl)
def b9_begins_171 (post : VV → AA → Prop)  (kb : VV → AA → Int32 → Prop) (V : VV) (A : AA) (x4 : Int32) : Prop :=
  (10 ≤ x4 → vp_in 0 2 ∧ (vp_in 1 2 ∧ post (vu (vu (vu V 37 0) 38 0) 39 1) (au (au A 30 (0 : Int32).toNatClampNeg 0) 30 (1 : Int32).toNatClampNeg 0))) ∧ (¬ 10 ≤ x4 → vp_in x4 10 ∧ kb V (au A 29 x4.toNatClampNeg 0) (x4 + 1))
def w9_begins_171 (post : VV → AA → Prop)  : Nat → VV → AA → Int32 → Prop
  | 0 => fun _ _ _ => False
  | n + 1 => b9_begins_171 post  (w9_begins_171 post  n)
set_option maxHeartbeats 4000000 in
set_option maxRecDepth 100000 in
theorem r9_begins_171 {p : Program} {l : Launch} {e : Env} {s : State} {m : MethodId} {args : Array Value} {below : List Frame} {meth : Method} {c : Code} {g : MG} (S : CallFix p m c cX9_begins 5 s args lw_all RX9) (hr : meth.sig.returnType = none) (hlocks : meth.locks = false) (hK : KM g s) (hI : HI g) {post : VV → AA → Prop}  : ∀ n : Nat, ∀ (V : VV) (A : AA) (x4 : Int32), w9_begins_171 post  n V A x4 → ∀ (H : Heap) (locs : List Loc), HM g V A H → va_S (HA g) s.heap H locs → ∀ (ls : Array Slot), lv_has ls 5 [(0, .ref (mh g)), (4, .int x4)] → W p l e rm9_begins s m args below meth c H locs 0 0 (MQ below (MQv g post) args s 0 0 (HA g)) (F0 m 171 ls []) := by
  have hx := S.1
  have hb := S.2.1
  have hown := S.2.2.2.1
  have hts := S.2.2.2.2
  intro n
  induction n with
  | zero =>
    intro V A x4 hw
    exact hw.elim
  | succ n hkb =>
    intro V A x4 hw H locs hM hS ls hl
    unfold w9_begins_171 b9_begins_171 at hw
    refine lv_iload hx hb dX9_begins_171 (lv_at hl 1 rfl) ?_
    refine lv_bipush (v := 10) hx hb dX9_begins_173 (by decide) ?_
    refine lv_icmp_ge (tgt := 192) hx hb dX9_begins_175 (by decide) (fun c7 => ?_) (fun c7 => ?_)
    · have hw := hw.1 c7
      refine lv_aload_n hx hb dX9_begins_192 rfl (lv_at hl 0 rfl) ?_
      refine mo_geta S hK hM 30 (by decide) q809 dX9_begins_193 rfl ?_
      refine lv_iconst (v := 0) hx hb dX9_begins_196 (by decide) ?_
      refine lv_iconst (v := 0) hx hb dX9_begins_197 (by decide) ?_
      have hin := hw.1
      have hw := hw.2
      refine mo_ast S hK hI hM hS 30 rfl hin dX9_begins_198 (fun H locs hM hS => ?_)
      refine lv_aload_n hx hb dX9_begins_199 rfl (lv_at hl 0 rfl) ?_
      refine mo_geta S hK hM 30 (by decide) q809 dX9_begins_200 rfl ?_
      refine lv_iconst (v := 1) hx hb dX9_begins_203 (by decide) ?_
      refine lv_iconst (v := 0) hx hb dX9_begins_204 (by decide) ?_
      have hin := hw.1
      have hw := hw.2
      refine mo_ast S hK hI hM hS 30 rfl hin dX9_begins_205 (fun H locs hM hS => ?_)
      refine lv_aload_n hx hb dX9_begins_206 rfl (lv_at hl 0 rfl) ?_
      refine lv_iconst (v := 0) hx hb dX9_begins_207 (by decide) ?_
      refine mo_put S hK hI hM hS 37 (by decide) q816 dX9_begins_208 rfl rfl ⟨rfl, rfl⟩ (fun H locs hM hS => ?_)
      refine lv_aload_n hx hb dX9_begins_211 rfl (lv_at hl 0 rfl) ?_
      refine lv_iconst (v := 0) hx hb dX9_begins_212 (by decide) ?_
      refine mo_put S hK hI hM hS 38 (by decide) q817 dX9_begins_213 rfl rfl ⟨rfl, rfl⟩ (fun H locs hM hS => ?_)
      refine lv_aload_n hx hb dX9_begins_216 rfl (lv_at hl 0 rfl) ?_
      refine lv_iconst (v := 1) hx hb dX9_begins_217 (by decide) ?_
      refine mo_put S hK hI hM hS 39 (by decide) q818 dX9_begins_218 rfl rfl ⟨rfl, rfl⟩ (fun H locs hM hS => ?_)
      exact mo_vret S hr hlocks hM hS hw dX9_begins_221
    · have hw := hw.2 c7
      refine lv_aload_n hx hb dX9_begins_178 rfl (lv_at hl 0 rfl) ?_
      refine mo_geta S hK hM 29 (by decide) q808 dX9_begins_179 rfl ?_
      refine lv_iload hx hb dX9_begins_182 (lv_at hl 1 rfl) ?_
      refine lv_iconst (v := 0) hx hb dX9_begins_184 (by decide) ?_
      have hin := hw.1
      have hw := hw.2
      refine mo_ast S hK hI hM hS 29 rfl hin dX9_begins_185 (fun H locs hM hS => ?_)
      refine lv_iinc (v := x4 + 1) (lv' := [(4, .int (x4 + 1)), (0, .ref (mh g))]) hx hb dX9_begins_186 hl (k := 1) rfl rfl (by decide) rfl (fun ls hl => ?_)
      refine lv_goto (tgt := 171) hx hb dX9_begins_189 (by decide) ?_
      exact hkb _ _ _ hw _ _ hM hS _ (lv_sub hl [1, 0] rfl)
def w9_begins (post : VV → AA → Prop) (V : VV) (A : AA) (x1 x2 x3 : Int32) : Prop :=
  ∃ n, w9_begins_18 post (fun (V5 : VV) (A6 : AA) => ∃ n, w9_begins_171 post  n (vu (vu (vu (vu (vu (vu (vu (vu (vu (vu (vu (vu (vu (vu (vu (vu (vu (vu (vu V5 6 0) 8 0) 11 0) 12 0) 13 0) 14 1) 15 0) 16 0) 17 0) 18 1) 19 0) 21 0) 22 0) 23 1) 24 0) 25 0) 26 0) 27 1) 28 0) A6 0) n (vu (vu (vu V 7 x1) 9 x2) 10 x3) A 0
set_option maxHeartbeats 4000000 in
set_option maxRecDepth 100000 in
theorem m9_begins (l : Launch) (g : MG) (V : VV) (A : AA) (x1 x2 x3 : Int32) (post : VV → AA → Prop) (hI : HI g) (hw : w9_begins post V A x1 x2 x3) : Met l yX9_begins (ws_ yX9_begins cX9_begins 5 none) rm9_begins (MPc g V A [.ref (mh g), .int x1, .int x2, .int x3]) (MQv g post) 0 0 (HA g) := by
  refine Met.ofW (cc := cX9_begins) (maxL := 5) (ret := none) (by decide) rfl ?_
  intro p e s m args below meth c s₁ B hml hv
  obtain ⟨rfl, hK, hM⟩ := hv
  have hx := B.exec
  have hb := B.bytes
  have hr : meth.sig.returnType = none := B.returns
  have hts := atoms_spec (ws := ws_ yX9_begins cX9_begins 5 none) B.pre
  have hts : ∀ w ∈ lw_all, w.before _ s = true := fun w h => hts w (List.mem_cons_of_mem _ h)
  have hown : s.vm.findClass RX9 = some m.cls := findClass_of_methodNamed B.named
  have hlocks : meth.locks = false := B.notSynchronized
  have S : CallFix p m c cX9_begins 5 s _ lw_all RX9 := ⟨hx, hb, hml, hown, hts⟩
  have hS : va_S (HA g) s.heap s.heap [] := va_S.rf
  have hl := lv_entry ([.ref (mh g), .int x1, .int x2, .int x3]) (n := 5) (Nat.le_of_ble_eq_true rfl)
  rw [lg_entry_eq]
  generalize (lg_sl ([.ref (mh g), .int x1, .int x2, .int x3]) ++ List.replicate (5 - (lg_sl ([.ref (mh g), .int x1, .int x2, .int x3])).length) Slot.unset).toArray = ls at hl ⊢
  have hl : lv_has ls 5 [(0, .ref (mh g)), (1, .int x1), (2, .int x2), (3, .int x3)] := hl
  unfold w9_begins at hw
  refine lv_aload_n hx hb dX9_begins_0 rfl (lv_at hl 0 rfl) ?_
  refine lv_iload_n hx hb dX9_begins_1 rfl (lv_at hl 1 rfl) ?_
  refine mo_put S hK hI hM hS 7 (by decide) q786 dX9_begins_2 rfl rfl ⟨rfl, rfl⟩ (fun H locs hM hS => ?_)
  refine lv_aload_n hx hb dX9_begins_5 rfl (lv_at hl 0 rfl) ?_
  refine lv_iload_n hx hb dX9_begins_6 rfl (lv_at hl 2 rfl) ?_
  refine mo_put S hK hI hM hS 9 (by decide) q788 dX9_begins_7 rfl rfl ⟨rfl, rfl⟩ (fun H locs hM hS => ?_)
  refine lv_aload_n hx hb dX9_begins_10 rfl (lv_at hl 0 rfl) ?_
  refine lv_iload_n hx hb dX9_begins_11 rfl (lv_at hl 3 rfl) ?_
  refine mo_put S hK hI hM hS 10 (by decide) q789 dX9_begins_12 rfl rfl ⟨rfl, rfl⟩ (fun H locs hM hS => ?_)
  refine lv_iconst (v := 0) hx hb dX9_begins_15 (by decide) ?_
  refine lv_istore (lv' := [(4, .int 0), (0, .ref (mh g)), (1, .int x1), (2, .int x2), (3, .int x3)]) hx hb dX9_begins_16 hl (by decide) rfl (fun ls hl => ?_)
  obtain ⟨n, hw⟩ := hw
  refine r9_begins_18 S hr hlocks hK hI (fun V5 A6  hw H locs hM hS ls hl => ?_) n _ _ _ hw _ _ hM hS _ (lv_sub hl [1, 0] rfl)
  refine lv_aload_n hx hb dX9_begins_73 rfl (lv_at hl 0 rfl) ?_
  refine lv_iconst (v := 0) hx hb dX9_begins_74 (by decide) ?_
  refine mo_put S hK hI hM hS 6 (by decide) q785 dX9_begins_75 rfl rfl ⟨rfl, rfl⟩ (fun H locs hM hS => ?_)
  refine lv_aload_n hx hb dX9_begins_78 rfl (lv_at hl 0 rfl) ?_
  refine lv_iconst (v := 0) hx hb dX9_begins_79 (by decide) ?_
  refine mo_put S hK hI hM hS 8 (by decide) q787 dX9_begins_80 rfl rfl ⟨rfl, rfl⟩ (fun H locs hM hS => ?_)
  refine lv_aload_n hx hb dX9_begins_83 rfl (lv_at hl 0 rfl) ?_
  refine lv_iconst (v := 0) hx hb dX9_begins_84 (by decide) ?_
  refine mo_put S hK hI hM hS 11 (by decide) q790 dX9_begins_85 rfl rfl ⟨rfl, rfl⟩ (fun H locs hM hS => ?_)
  refine lv_aload_n hx hb dX9_begins_88 rfl (lv_at hl 0 rfl) ?_
  refine lv_iconst (v := 0) hx hb dX9_begins_89 (by decide) ?_
  refine mo_put S hK hI hM hS 12 (by decide) q791 dX9_begins_90 rfl rfl ⟨rfl, rfl⟩ (fun H locs hM hS => ?_)
  refine lv_aload_n hx hb dX9_begins_93 rfl (lv_at hl 0 rfl) ?_
  refine lv_iconst (v := 0) hx hb dX9_begins_94 (by decide) ?_
  refine mo_put S hK hI hM hS 13 (by decide) q792 dX9_begins_95 rfl rfl ⟨rfl, rfl⟩ (fun H locs hM hS => ?_)
  refine lv_aload_n hx hb dX9_begins_98 rfl (lv_at hl 0 rfl) ?_
  refine lv_iconst (v := 1) hx hb dX9_begins_99 (by decide) ?_
  refine mo_put S hK hI hM hS 14 (by decide) q793 dX9_begins_100 rfl rfl ⟨rfl, rfl⟩ (fun H locs hM hS => ?_)
  refine lv_aload_n hx hb dX9_begins_103 rfl (lv_at hl 0 rfl) ?_
  refine lv_iconst (v := 0) hx hb dX9_begins_104 (by decide) ?_
  refine mo_put S hK hI hM hS 15 (by decide) q794 dX9_begins_105 rfl rfl ⟨rfl, rfl⟩ (fun H locs hM hS => ?_)
  refine lv_aload_n hx hb dX9_begins_108 rfl (lv_at hl 0 rfl) ?_
  refine lv_iconst (v := 0) hx hb dX9_begins_109 (by decide) ?_
  refine mo_put S hK hI hM hS 16 (by decide) q795 dX9_begins_110 rfl rfl ⟨rfl, rfl⟩ (fun H locs hM hS => ?_)
  refine lv_aload_n hx hb dX9_begins_113 rfl (lv_at hl 0 rfl) ?_
  refine lv_iconst (v := 0) hx hb dX9_begins_114 (by decide) ?_
  refine mo_put S hK hI hM hS 17 (by decide) q796 dX9_begins_115 rfl rfl ⟨rfl, rfl⟩ (fun H locs hM hS => ?_)
  refine lv_aload_n hx hb dX9_begins_118 rfl (lv_at hl 0 rfl) ?_
  refine lv_iconst (v := 1) hx hb dX9_begins_119 (by decide) ?_
  refine mo_put S hK hI hM hS 18 (by decide) q797 dX9_begins_120 rfl rfl ⟨rfl, rfl⟩ (fun H locs hM hS => ?_)
  refine lv_aload_n hx hb dX9_begins_123 rfl (lv_at hl 0 rfl) ?_
  refine lv_iconst (v := 0) hx hb dX9_begins_124 (by decide) ?_
  refine mo_put S hK hI hM hS 19 (by decide) q798 dX9_begins_125 rfl rfl ⟨rfl, rfl⟩ (fun H locs hM hS => ?_)
  refine lv_aload_n hx hb dX9_begins_128 rfl (lv_at hl 0 rfl) ?_
  refine lv_iconst (v := 0) hx hb dX9_begins_129 (by decide) ?_
  refine mo_put S hK hI hM hS 21 (by decide) q800 dX9_begins_130 rfl rfl ⟨rfl, rfl⟩ (fun H locs hM hS => ?_)
  refine lv_aload_n hx hb dX9_begins_133 rfl (lv_at hl 0 rfl) ?_
  refine lv_iconst (v := 0) hx hb dX9_begins_134 (by decide) ?_
  refine mo_put S hK hI hM hS 22 (by decide) q801 dX9_begins_135 rfl rfl ⟨rfl, rfl⟩ (fun H locs hM hS => ?_)
  refine lv_aload_n hx hb dX9_begins_138 rfl (lv_at hl 0 rfl) ?_
  refine lv_iconst (v := 1) hx hb dX9_begins_139 (by decide) ?_
  refine mo_put S hK hI hM hS 23 (by decide) q802 dX9_begins_140 rfl rfl ⟨rfl, rfl⟩ (fun H locs hM hS => ?_)
  refine lv_aload_n hx hb dX9_begins_143 rfl (lv_at hl 0 rfl) ?_
  refine lv_iconst (v := 0) hx hb dX9_begins_144 (by decide) ?_
  refine mo_put S hK hI hM hS 24 (by decide) q803 dX9_begins_145 rfl rfl ⟨rfl, rfl⟩ (fun H locs hM hS => ?_)
  refine lv_aload_n hx hb dX9_begins_148 rfl (lv_at hl 0 rfl) ?_
  refine lv_iconst (v := 0) hx hb dX9_begins_149 (by decide) ?_
  refine mo_put S hK hI hM hS 25 (by decide) q804 dX9_begins_150 rfl rfl ⟨rfl, rfl⟩ (fun H locs hM hS => ?_)
  refine lv_aload_n hx hb dX9_begins_153 rfl (lv_at hl 0 rfl) ?_
  refine lv_iconst (v := 0) hx hb dX9_begins_154 (by decide) ?_
  refine mo_put S hK hI hM hS 26 (by decide) q805 dX9_begins_155 rfl rfl ⟨rfl, rfl⟩ (fun H locs hM hS => ?_)
  refine lv_aload_n hx hb dX9_begins_158 rfl (lv_at hl 0 rfl) ?_
  refine lv_iconst (v := 1) hx hb dX9_begins_159 (by decide) ?_
  refine mo_put S hK hI hM hS 27 (by decide) q806 dX9_begins_160 rfl rfl ⟨rfl, rfl⟩ (fun H locs hM hS => ?_)
  refine lv_aload_n hx hb dX9_begins_163 rfl (lv_at hl 0 rfl) ?_
  refine lv_iconst (v := 0) hx hb dX9_begins_164 (by decide) ?_
  refine mo_put S hK hI hM hS 28 (by decide) q807 dX9_begins_165 rfl rfl ⟨rfl, rfl⟩ (fun H locs hM hS => ?_)
  refine lv_iconst (v := 0) hx hb dX9_begins_168 (by decide) ?_
  refine lv_istore (lv' := [(4, .int 0), (0, .ref (mh g))]) hx hb dX9_begins_169 hl (by decide) rfl (fun ls hl => ?_)
  obtain ⟨n, hw⟩ := hw
  refine r9_begins_171 S hr hlocks hK hI  n _ _ _ hw _ _ hM hS _ (lv_sub hl [1, 0] rfl)
/-! FarTypewriterModel.open(III)Z -/
abbrev rm9_open : Room := { frames := 2, cells := 0, slots := 0, locals := 48 }
def w9_open (post : Int32 → VV → AA → Prop) (V : VV) (A : AA) (x1 x2 x3 : Int32) : Prop :=
  (x1 < 0 → post 0 V A) ∧ (¬ x1 < 0 → (3 < x1 → post 0 V A) ∧ (¬ 3 < x1 → (x2 < 1 → post 0 V A) ∧ (¬ x2 < 1 → (20 < x2 → post 0 V A) ∧ (¬ 20 < x2 → (x3 < x2 → post 0 V A) ∧ (¬ x3 < x2 → (x3 ≤ 50 → w9_begins (fun (V7 : VV) (A8 : AA) => post 1 V7 A8) V A x1 x2 x3) ∧ (¬ x3 ≤ 50 → post 0 V A))))))
set_option maxHeartbeats 4000000 in
set_option maxRecDepth 100000 in
theorem m9_open (l : Launch) (g : MG) (V : VV) (A : AA) (x1 x2 x3 : Int32) (post : Int32 → VV → AA → Prop) (hI : HI g) (hw : w9_open post V A x1 x2 x3) : Met l yX9_open (ws_ yX9_open cX9_open 4 (some .boolean)) rm9_open (MPc g V A [.ref (mh g), .int x1, .int x2, .int x3]) (MQi g post) 0 0 (HA g) := by
  refine Met.ofW (cc := cX9_open) (maxL := 4) (ret := (some .boolean)) (by decide) rfl ?_
  intro p e s m args below meth c s₁ B hml hv
  obtain ⟨rfl, hK, hM⟩ := hv
  have hx := B.exec
  have hb := B.bytes
  have hr : meth.sig.returnType = (some .boolean) := B.returns
  have hts := atoms_spec (ws := ws_ yX9_open cX9_open 4 (some .boolean)) B.pre
  have hts : ∀ w ∈ lw_all, w.before _ s = true := fun w h => hts w (List.mem_cons_of_mem _ h)
  have hown : s.vm.findClass RX9 = some m.cls := findClass_of_methodNamed B.named
  have hlocks : meth.locks = false := B.notSynchronized
  have S : CallFix p m c cX9_open 4 s _ lw_all RX9 := ⟨hx, hb, hml, hown, hts⟩
  have hS : va_S (HA g) s.heap s.heap [] := va_S.rf
  have hl := lv_entry ([.ref (mh g), .int x1, .int x2, .int x3]) (n := 4) (Nat.le_of_ble_eq_true rfl)
  rw [lg_entry_eq]
  generalize (lg_sl ([.ref (mh g), .int x1, .int x2, .int x3]) ++ List.replicate (4 - (lg_sl ([.ref (mh g), .int x1, .int x2, .int x3])).length) Slot.unset).toArray = ls at hl ⊢
  have hl : lv_has ls 4 [(0, .ref (mh g)), (1, .int x1), (2, .int x2), (3, .int x3)] := hl
  unfold w9_open at hw
  refine lv_iload_n hx hb dX9_open_0 rfl (lv_at hl 1 rfl) ?_
  refine lv_if_lt (tgt := 31) hx hb dX9_open_1 (by decide) (fun c1 => ?_) (fun c1 => ?_)
  · have hw := hw.1 c1
    refine lv_iconst (v := 0) hx hb dX9_open_31 (by decide) ?_
    exact mo_zret S hr hlocks hM hS rfl hw dX9_open_32
  · have hw := hw.2 c1
    refine lv_iload_n hx hb dX9_open_4 rfl (lv_at hl 1 rfl) ?_
    refine lv_iconst (v := 3) hx hb dX9_open_5 (by decide) ?_
    refine lv_icmp_gt (tgt := 31) hx hb dX9_open_6 (by decide) (fun c2 => ?_) (fun c2 => ?_)
    · have hw := hw.1 c2
      refine lv_iconst (v := 0) hx hb dX9_open_31 (by decide) ?_
      exact mo_zret S hr hlocks hM hS rfl hw dX9_open_32
    · have hw := hw.2 c2
      refine lv_iload_n hx hb dX9_open_9 rfl (lv_at hl 2 rfl) ?_
      refine lv_iconst (v := 1) hx hb dX9_open_10 (by decide) ?_
      refine lv_icmp_lt (tgt := 31) hx hb dX9_open_11 (by decide) (fun c3 => ?_) (fun c3 => ?_)
      · have hw := hw.1 c3
        refine lv_iconst (v := 0) hx hb dX9_open_31 (by decide) ?_
        exact mo_zret S hr hlocks hM hS rfl hw dX9_open_32
      · have hw := hw.2 c3
        refine lv_iload_n hx hb dX9_open_14 rfl (lv_at hl 2 rfl) ?_
        refine lv_bipush (v := 20) hx hb dX9_open_15 (by decide) ?_
        refine lv_icmp_gt (tgt := 31) hx hb dX9_open_17 (by decide) (fun c4 => ?_) (fun c4 => ?_)
        · have hw := hw.1 c4
          refine lv_iconst (v := 0) hx hb dX9_open_31 (by decide) ?_
          exact mo_zret S hr hlocks hM hS rfl hw dX9_open_32
        · have hw := hw.2 c4
          refine lv_iload_n hx hb dX9_open_20 rfl (lv_at hl 3 rfl) ?_
          refine lv_iload_n hx hb dX9_open_21 rfl (lv_at hl 2 rfl) ?_
          refine lv_icmp_lt (tgt := 31) hx hb dX9_open_22 (by decide) (fun c5 => ?_) (fun c5 => ?_)
          · have hw := hw.1 c5
            refine lv_iconst (v := 0) hx hb dX9_open_31 (by decide) ?_
            exact mo_zret S hr hlocks hM hS rfl hw dX9_open_32
          · have hw := hw.2 c5
            refine lv_iload_n hx hb dX9_open_25 rfl (lv_at hl 3 rfl) ?_
            refine lv_bipush (v := 50) hx hb dX9_open_26 (by decide) ?_
            refine lv_icmp_le (tgt := 33) hx hb dX9_open_28 (by decide) (fun c6 => ?_) (fun c6 => ?_)
            · have hw := hw.1 c6
              refine lv_aload_n hx hb dX9_open_33 rfl (lv_at hl 0 rfl) ?_
              refine lv_iload_n hx hb dX9_open_34 rfl (lv_at hl 1 rfl) ?_
              refine lv_iload_n hx hb dX9_open_35 rfl (lv_at hl 2 rfl) ?_
              refine lv_iload_n hx hb dX9_open_36 rfl (lv_at hl 3 rfl) ?_
              refine mo_callv (As := [.int x1, .int x2, .int x3]) S hK hM hS (m9_begins l g V A x1 x2 x3 _ hI hw) (cwV 3 hts (lw_V q771 q773 qs15 q64 q774) rfl rfl rfl (by decide +kernel) ⟨Nat.le_of_ble_eq_true rfl, Nat.le_of_ble_eq_true rfl⟩) rfl hl.1 rfl (lv_room (Nat.le_of_ble_eq_true rfl)) dX9_open_37 ⟨Nat.zero_le _, Nat.zero_le _⟩ (fun V7 A8 H locs hw hM hS => ?_)
              refine lv_iconst (v := 1) hx hb dX9_open_40 (by decide) ?_
              exact mo_zret S hr hlocks hM hS rfl hw dX9_open_41
            · have hw := hw.2 c6
              refine lv_iconst (v := 0) hx hb dX9_open_31 (by decide) ?_
              exact mo_zret S hr hlocks hM hS rfl hw dX9_open_32
/-! FarTypewriterModel.program(I)I -/
abbrev rm9_program : Room := { frames := 0, cells := 0, slots := 0, locals := 0 }
def w9_program (post : Int32 → VV → AA → Prop) (V : VV) (A : AA) (x1 : Int32) : Prop :=
  (x1 < 0 → post (-1) V A) ∧ (¬ x1 < 0 → (x1 ≤ 3 → ∀ y2_3 : Int32, y2_3 = V 7 → (post y2_3 (vu (vu V 7 x1) 8 0) A)) ∧ (¬ x1 ≤ 3 → post (-1) V A))
set_option maxHeartbeats 4000000 in
set_option maxRecDepth 100000 in
theorem m9_program (l : Launch) (g : MG) (V : VV) (A : AA) (x1 : Int32) (post : Int32 → VV → AA → Prop) (hI : HI g) (hw : w9_program post V A x1) : Met l yX9_program (ws_ yX9_program cX9_program 3 (some .int)) rm9_program (MPc g V A [.ref (mh g), .int x1]) (MQi g post) 0 0 (HA g) := by
  refine Met.ofW (cc := cX9_program) (maxL := 3) (ret := (some .int)) (by decide) rfl ?_
  intro p e s m args below meth c s₁ B hml hv
  obtain ⟨rfl, hK, hM⟩ := hv
  have hx := B.exec
  have hb := B.bytes
  have hr : meth.sig.returnType = (some .int) := B.returns
  have hts := atoms_spec (ws := ws_ yX9_program cX9_program 3 (some .int)) B.pre
  have hts : ∀ w ∈ lw_all, w.before _ s = true := fun w h => hts w (List.mem_cons_of_mem _ h)
  have hown : s.vm.findClass RX9 = some m.cls := findClass_of_methodNamed B.named
  have hlocks : meth.locks = false := B.notSynchronized
  have S : CallFix p m c cX9_program 3 s _ lw_all RX9 := ⟨hx, hb, hml, hown, hts⟩
  have hS : va_S (HA g) s.heap s.heap [] := va_S.rf
  have hl := lv_entry ([.ref (mh g), .int x1]) (n := 3) (Nat.le_of_ble_eq_true rfl)
  rw [lg_entry_eq]
  generalize (lg_sl ([.ref (mh g), .int x1]) ++ List.replicate (3 - (lg_sl ([.ref (mh g), .int x1])).length) Slot.unset).toArray = ls at hl ⊢
  have hl : lv_has ls 3 [(0, .ref (mh g)), (1, .int x1)] := hl
  unfold w9_program at hw
  refine lv_iload_n hx hb dX9_program_0 rfl (lv_at hl 1 rfl) ?_
  refine lv_if_lt (tgt := 9) hx hb dX9_program_1 (by decide) (fun c1 => ?_) (fun c1 => ?_)
  · have hw := hw.1 c1
    refine lv_iconst (v := (-1)) hx hb dX9_program_9 (by decide) ?_
    exact mo_iret S hr hlocks hM hS hw dX9_program_10
  · have hw := hw.2 c1
    refine lv_iload_n hx hb dX9_program_4 rfl (lv_at hl 1 rfl) ?_
    refine lv_iconst (v := 3) hx hb dX9_program_5 (by decide) ?_
    refine lv_icmp_le (tgt := 11) hx hb dX9_program_6 (by decide) (fun c2 => ?_) (fun c2 => ?_)
    · have hw := hw.1 c2
      refine lv_aload_n hx hb dX9_program_11 rfl (lv_at hl 0 rfl) ?_
      refine mo_geti S hK hM 7 (by decide) q786 dX9_program_12 rfl ?_
      refine lv_topi (fun y2_3 ey2_3 => ?_)
      have hw := hw y2_3 ey2_3
      refine lv_istore_n (lv' := [(2, .int y2_3), (0, .ref (mh g)), (1, .int x1)]) hx hb dX9_program_15 rfl hl (by decide) rfl (fun ls hl => ?_)
      refine lv_aload_n hx hb dX9_program_16 rfl (lv_at hl 1 rfl) ?_
      refine lv_iload_n hx hb dX9_program_17 rfl (lv_at hl 2 rfl) ?_
      refine mo_put S hK hI hM hS 7 (by decide) q786 dX9_program_18 rfl rfl ⟨rfl, rfl⟩ (fun H locs hM hS => ?_)
      refine lv_aload_n hx hb dX9_program_21 rfl (lv_at hl 1 rfl) ?_
      refine lv_iconst (v := 0) hx hb dX9_program_22 (by decide) ?_
      refine mo_put S hK hI hM hS 8 (by decide) q787 dX9_program_23 rfl rfl ⟨rfl, rfl⟩ (fun H locs hM hS => ?_)
      refine lv_iload_n hx hb dX9_program_26 rfl (lv_at hl 0 rfl) ?_
      exact mo_iret S hr hlocks hM hS hw dX9_program_27
    · have hw := hw.2 c2
      refine lv_iconst (v := (-1)) hx hb dX9_program_9 (by decide) ?_
      exact mo_iret S hr hlocks hM hS hw dX9_program_10
/-! FarTypewriterModel.isLetter(I)Z -/
abbrev rm9_isLetter : Room := { frames := 0, cells := 0, slots := 0, locals := 0 }
def w9_isLetter (post : Int32 → VV → AA → Prop) (V : VV) (A : AA) (x0 : Int32) : Prop :=
  (x0 < 32 → post 0 V A) ∧ (¬ x0 < 32 → (126 < x0 → post 0 V A) ∧ (¬ 126 < x0 → post 1 V A))
set_option maxHeartbeats 4000000 in
set_option maxRecDepth 100000 in
theorem m9_isLetter (l : Launch) (g : MG) (V : VV) (A : AA) (x0 : Int32) (post : Int32 → VV → AA → Prop) (hI : HI g) (hw : w9_isLetter post V A x0) : Met l yX9_isLetter (ws_ yX9_isLetter cX9_isLetter 1 (some .boolean)) rm9_isLetter (MPc g V A [.int x0]) (MQi g post) 0 0 (HA g) := by
  refine Met.ofW (cc := cX9_isLetter) (maxL := 1) (ret := (some .boolean)) (by decide) rfl ?_
  intro p e s m args below meth c s₁ B hml hv
  obtain ⟨rfl, hK, hM⟩ := hv
  have hx := B.exec
  have hb := B.bytes
  have hr : meth.sig.returnType = (some .boolean) := B.returns
  have hts := atoms_spec (ws := ws_ yX9_isLetter cX9_isLetter 1 (some .boolean)) B.pre
  have hts : ∀ w ∈ lw_all, w.before _ s = true := fun w h => hts w (List.mem_cons_of_mem _ h)
  have hown : s.vm.findClass RX9 = some m.cls := findClass_of_methodNamed B.named
  have hlocks : meth.locks = false := B.notSynchronized
  have S : CallFix p m c cX9_isLetter 1 s _ lw_all RX9 := ⟨hx, hb, hml, hown, hts⟩
  have hS : va_S (HA g) s.heap s.heap [] := va_S.rf
  have hl := lv_entry ([.int x0]) (n := 1) (Nat.le_of_ble_eq_true rfl)
  rw [lg_entry_eq]
  generalize (lg_sl ([.int x0]) ++ List.replicate (1 - (lg_sl ([.int x0])).length) Slot.unset).toArray = ls at hl ⊢
  have hl : lv_has ls 1 [(0, .int x0)] := hl
  unfold w9_isLetter at hw
  refine lv_iload_n hx hb dX9_isLetter_0 rfl (lv_at hl 0 rfl) ?_
  refine lv_bipush (v := 32) hx hb dX9_isLetter_1 (by decide) ?_
  refine lv_icmp_lt (tgt := 16) hx hb dX9_isLetter_3 (by decide) (fun c1 => ?_) (fun c1 => ?_)
  · have hw := hw.1 c1
    refine lv_iconst (v := 0) hx hb dX9_isLetter_16 (by decide) ?_
    exact mo_zret S hr hlocks hM hS rfl hw dX9_isLetter_17
  · have hw := hw.2 c1
    refine lv_iload_n hx hb dX9_isLetter_6 rfl (lv_at hl 0 rfl) ?_
    refine lv_bipush (v := 126) hx hb dX9_isLetter_7 (by decide) ?_
    refine lv_icmp_gt (tgt := 16) hx hb dX9_isLetter_9 (by decide) (fun c2 => ?_) (fun c2 => ?_)
    · have hw := hw.1 c2
      refine lv_iconst (v := 0) hx hb dX9_isLetter_16 (by decide) ?_
      exact mo_zret S hr hlocks hM hS rfl hw dX9_isLetter_17
    · have hw := hw.2 c2
      refine lv_iconst (v := 1) hx hb dX9_isLetter_12 (by decide) ?_
      refine lv_goto (tgt := 17) hx hb dX9_isLetter_13 (by decide) ?_
      exact mo_zret S hr hlocks hM hS rfl hw dX9_isLetter_17
/-! FarTypewriterModel.scrolls(II)V -/
abbrev rm9_scrolls : Room := { frames := 1, cells := 0, slots := 0, locals := 24 }
def b9_scrolls_2 (post : VV → AA → Prop)  (kb : VV → AA → Int32 → Int32 → Int32 → Prop) (V : VV) (A : AA) (x1 x2 x3 : Int32) : Prop :=
  (192 ≤ (x3 + (24 * x2)) → w9_blank (fun (V2 : VV) (A3 : AA) => post V2 A3) V A x1 (192 - (24 * x2)) 192) ∧ (¬ 192 ≤ (x3 + (24 * x2)) → vp_in (((192 * x1) + x3) + (24 * x2)) 13248 ∧ (vp_in ((192 * x1) + x3) 13248 ∧ (vp_in (((192 * x1) + x3) + (24 * x2)) 13248 ∧ (vp_in ((192 * x1) + x3) 13248 ∧ kb V (au (au A 0 ((192 * x1) + x3).toNatClampNeg (A 0 (((192 * x1) + x3) + (24 * x2)).toNatClampNeg)) 1 ((192 * x1) + x3).toNatClampNeg ((au A 0 ((192 * x1) + x3).toNatClampNeg (A 0 (((192 * x1) + x3) + (24 * x2)).toNatClampNeg)) 1 (((192 * x1) + x3) + (24 * x2)).toNatClampNeg)) x1 x2 (x3 + 1)))))
def w9_scrolls_2 (post : VV → AA → Prop)  : Nat → VV → AA → Int32 → Int32 → Int32 → Prop
  | 0 => fun _ _ _ _ _ => False
  | n + 1 => b9_scrolls_2 post  (w9_scrolls_2 post  n)
set_option maxHeartbeats 4000000 in
set_option maxRecDepth 100000 in
theorem r9_scrolls_2 {p : Program} {l : Launch} {e : Env} {s : State} {m : MethodId} {args : Array Value} {below : List Frame} {meth : Method} {c : Code} {g : MG} (S : CallFix p m c cX9_scrolls 4 s args lw_all RX9) (hr : meth.sig.returnType = none) (hlocks : meth.locks = false) (hK : KM g s) (hI : HI g) {post : VV → AA → Prop}  : ∀ n : Nat, ∀ (V : VV) (A : AA) (x1 x2 x3 : Int32), w9_scrolls_2 post  n V A x1 x2 x3 → ∀ (H : Heap) (locs : List Loc), HM g V A H → va_S (HA g) s.heap H locs → ∀ (ls : Array Slot), lv_has ls 4 [(0, .ref (mh g)), (1, .int x1), (2, .int x2), (3, .int x3)] → W p l e rm9_scrolls s m args below meth c H locs 0 0 (MQ below (MQv g post) args s 0 0 (HA g)) (F0 m 2 ls []) := by
  have hx := S.1
  have hb := S.2.1
  have hown := S.2.2.2.1
  have hts := S.2.2.2.2
  intro n
  induction n with
  | zero =>
    intro V A x1 x2 x3 hw
    exact hw.elim
  | succ n hkb =>
    intro V A x1 x2 x3 hw H locs hM hS ls hl
    unfold w9_scrolls_2 b9_scrolls_2 at hw
    refine lv_iload_n hx hb dX9_scrolls_2 rfl (lv_at hl 3 rfl) ?_
    refine lv_bipush (v := 24) hx hb dX9_scrolls_3 (by decide) ?_
    refine lv_iload_n hx hb dX9_scrolls_5 rfl (lv_at hl 2 rfl) ?_
    refine lv_imul hx hb dX9_scrolls_6 ?_
    refine lv_iadd hx hb dX9_scrolls_7 ?_
    refine lv_sipush (v := 192) hx hb dX9_scrolls_8 (by decide) ?_
    refine lv_icmp_ge (tgt := 78) hx hb dX9_scrolls_11 (by decide) (fun c1 => ?_) (fun c1 => ?_)
    · have hw := hw.1 c1
      refine lv_aload_n hx hb dX9_scrolls_78 rfl (lv_at hl 0 rfl) ?_
      refine lv_iload_n hx hb dX9_scrolls_79 rfl (lv_at hl 1 rfl) ?_
      refine lv_sipush (v := 192) hx hb dX9_scrolls_80 (by decide) ?_
      refine lv_bipush (v := 24) hx hb dX9_scrolls_83 (by decide) ?_
      refine lv_iload_n hx hb dX9_scrolls_85 rfl (lv_at hl 2 rfl) ?_
      refine lv_imul hx hb dX9_scrolls_86 ?_
      refine lv_isub hx hb dX9_scrolls_87 ?_
      refine lv_sipush (v := 192) hx hb dX9_scrolls_88 (by decide) ?_
      refine mo_callv (As := [.int x1, .int (192 - (24 * x2)), .int 192]) S hK hM hS (m9_blank l g V A x1 (192 - (24 * x2)) 192 _ hI hw) (cwV 3 hts (lw_V q775 q777 qs16 q64 q778) rfl rfl rfl (by decide +kernel) ⟨Nat.le_of_ble_eq_true rfl, Nat.le_of_ble_eq_true rfl⟩) rfl hl.1 rfl (lv_room (Nat.le_of_ble_eq_true rfl)) dX9_scrolls_91 ⟨Nat.zero_le _, Nat.zero_le _⟩ (fun V2 A3 H locs hw hM hS => ?_)
      exact mo_vret S hr hlocks hM hS hw dX9_scrolls_94
    · have hw := hw.2 c1
      refine lv_aload_n hx hb dX9_scrolls_14 rfl (lv_at hl 0 rfl) ?_
      refine mo_geta S hK hM 0 (by decide) q779 dX9_scrolls_15 rfl ?_
      refine lv_sipush (v := 192) hx hb dX9_scrolls_18 (by decide) ?_
      refine lv_iload_n hx hb dX9_scrolls_21 rfl (lv_at hl 1 rfl) ?_
      refine lv_imul hx hb dX9_scrolls_22 ?_
      refine lv_iload_n hx hb dX9_scrolls_23 rfl (lv_at hl 3 rfl) ?_
      refine lv_iadd hx hb dX9_scrolls_24 ?_
      refine lv_aload_n hx hb dX9_scrolls_25 rfl (lv_at hl 0 rfl) ?_
      refine mo_geta S hK hM 0 (by decide) q779 dX9_scrolls_26 rfl ?_
      refine lv_sipush (v := 192) hx hb dX9_scrolls_29 (by decide) ?_
      refine lv_iload_n hx hb dX9_scrolls_32 rfl (lv_at hl 1 rfl) ?_
      refine lv_imul hx hb dX9_scrolls_33 ?_
      refine lv_iload_n hx hb dX9_scrolls_34 rfl (lv_at hl 3 rfl) ?_
      refine lv_iadd hx hb dX9_scrolls_35 ?_
      refine lv_bipush (v := 24) hx hb dX9_scrolls_36 (by decide) ?_
      refine lv_iload_n hx hb dX9_scrolls_38 rfl (lv_at hl 2 rfl) ?_
      refine lv_imul hx hb dX9_scrolls_39 ?_
      refine lv_iadd hx hb dX9_scrolls_40 ?_
      have hin := hw.1
      have hw := hw.2
      refine mo_ald S hK hM 0 rfl hin dX9_scrolls_41 ?_
      have hin := hw.1
      have hw := hw.2
      refine mo_ast S hK hI hM hS 0 rfl hin dX9_scrolls_42 (fun H locs hM hS => ?_)
      refine lv_aload_n hx hb dX9_scrolls_43 rfl (lv_at hl 0 rfl) ?_
      refine mo_geta S hK hM 1 (by decide) q780 dX9_scrolls_44 rfl ?_
      refine lv_sipush (v := 192) hx hb dX9_scrolls_47 (by decide) ?_
      refine lv_iload_n hx hb dX9_scrolls_50 rfl (lv_at hl 1 rfl) ?_
      refine lv_imul hx hb dX9_scrolls_51 ?_
      refine lv_iload_n hx hb dX9_scrolls_52 rfl (lv_at hl 3 rfl) ?_
      refine lv_iadd hx hb dX9_scrolls_53 ?_
      refine lv_aload_n hx hb dX9_scrolls_54 rfl (lv_at hl 0 rfl) ?_
      refine mo_geta S hK hM 1 (by decide) q780 dX9_scrolls_55 rfl ?_
      refine lv_sipush (v := 192) hx hb dX9_scrolls_58 (by decide) ?_
      refine lv_iload_n hx hb dX9_scrolls_61 rfl (lv_at hl 1 rfl) ?_
      refine lv_imul hx hb dX9_scrolls_62 ?_
      refine lv_iload_n hx hb dX9_scrolls_63 rfl (lv_at hl 3 rfl) ?_
      refine lv_iadd hx hb dX9_scrolls_64 ?_
      refine lv_bipush (v := 24) hx hb dX9_scrolls_65 (by decide) ?_
      refine lv_iload_n hx hb dX9_scrolls_67 rfl (lv_at hl 2 rfl) ?_
      refine lv_imul hx hb dX9_scrolls_68 ?_
      refine lv_iadd hx hb dX9_scrolls_69 ?_
      have hin := hw.1
      have hw := hw.2
      refine mo_ald S hK hM 1 rfl hin dX9_scrolls_70 ?_
      have hin := hw.1
      have hw := hw.2
      refine mo_ast S hK hI hM hS 1 rfl hin dX9_scrolls_71 (fun H locs hM hS => ?_)
      refine lv_iinc (v := x3 + 1) (lv' := [(3, .int (x3 + 1)), (0, .ref (mh g)), (1, .int x1), (2, .int x2)]) hx hb dX9_scrolls_72 hl (k := 3) rfl rfl (by decide) rfl (fun ls hl => ?_)
      refine lv_goto (tgt := 2) hx hb dX9_scrolls_75 (by decide) ?_
      exact hkb _ _ _ _ _ hw _ _ hM hS _ (lv_sub hl [1, 2, 3, 0] rfl)
def w9_scrolls (post : VV → AA → Prop) (V : VV) (A : AA) (x1 x2 : Int32) : Prop :=
  ∃ n, w9_scrolls_2 post  n V A x1 x2 0
set_option maxHeartbeats 4000000 in
set_option maxRecDepth 100000 in
theorem m9_scrolls (l : Launch) (g : MG) (V : VV) (A : AA) (x1 x2 : Int32) (post : VV → AA → Prop) (hI : HI g) (hw : w9_scrolls post V A x1 x2) : Met l yX9_scrolls (ws_ yX9_scrolls cX9_scrolls 4 none) rm9_scrolls (MPc g V A [.ref (mh g), .int x1, .int x2]) (MQv g post) 0 0 (HA g) := by
  refine Met.ofW (cc := cX9_scrolls) (maxL := 4) (ret := none) (by decide) rfl ?_
  intro p e s m args below meth c s₁ B hml hv
  obtain ⟨rfl, hK, hM⟩ := hv
  have hx := B.exec
  have hb := B.bytes
  have hr : meth.sig.returnType = none := B.returns
  have hts := atoms_spec (ws := ws_ yX9_scrolls cX9_scrolls 4 none) B.pre
  have hts : ∀ w ∈ lw_all, w.before _ s = true := fun w h => hts w (List.mem_cons_of_mem _ h)
  have hown : s.vm.findClass RX9 = some m.cls := findClass_of_methodNamed B.named
  have hlocks : meth.locks = false := B.notSynchronized
  have S : CallFix p m c cX9_scrolls 4 s _ lw_all RX9 := ⟨hx, hb, hml, hown, hts⟩
  have hS : va_S (HA g) s.heap s.heap [] := va_S.rf
  have hl := lv_entry ([.ref (mh g), .int x1, .int x2]) (n := 4) (Nat.le_of_ble_eq_true rfl)
  rw [lg_entry_eq]
  generalize (lg_sl ([.ref (mh g), .int x1, .int x2]) ++ List.replicate (4 - (lg_sl ([.ref (mh g), .int x1, .int x2])).length) Slot.unset).toArray = ls at hl ⊢
  have hl : lv_has ls 4 [(0, .ref (mh g)), (1, .int x1), (2, .int x2)] := hl
  unfold w9_scrolls at hw
  refine lv_iconst (v := 0) hx hb dX9_scrolls_0 (by decide) ?_
  refine lv_istore_n (lv' := [(3, .int 0), (0, .ref (mh g)), (1, .int x1), (2, .int x2)]) hx hb dX9_scrolls_1 rfl hl (by decide) rfl (fun ls hl => ?_)
  obtain ⟨n, hw⟩ := hw
  refine r9_scrolls_2 S hr hlocks hK hI  n _ _ _ _ _ hw _ _ hM hS _ (lv_sub hl [1, 2, 3, 0] rfl)
/-! FarTypewriterModel.newLine()V -/
abbrev rm9_newLine : Room := { frames := 2, cells := 0, slots := 0, locals := 47 }
def w9_newLine (post : VV → AA → Prop) (V : VV) (A : AA) : Prop :=
  vp_in 0 69 ∧ (vp_in 0 69 ∧ ((7 ≤ ((au A 3 (0 : Int32).toNatClampNeg 0) 2 (0 : Int32).toNatClampNeg) → w9_scrolls (fun (V2 : VV) (A3 : AA) => post V2 A3) V (au A 3 (0 : Int32).toNatClampNeg 0) 0 1) ∧ (¬ 7 ≤ ((au A 3 (0 : Int32).toNatClampNeg 0) 2 (0 : Int32).toNatClampNeg) → vp_in 0 69 ∧ (vp_in 0 69 ∧ post V (au (au A 3 (0 : Int32).toNatClampNeg 0) 2 (0 : Int32).toNatClampNeg (((au A 3 (0 : Int32).toNatClampNeg 0) 2 (0 : Int32).toNatClampNeg) + 1))))))
set_option maxHeartbeats 4000000 in
set_option maxRecDepth 100000 in
theorem m9_newLine (l : Launch) (g : MG) (V : VV) (A : AA) (post : VV → AA → Prop) (hI : HI g) (hw : w9_newLine post V A ) : Met l yX9_newLine (ws_ yX9_newLine cX9_newLine 1 none) rm9_newLine (MPc g V A [.ref (mh g)]) (MQv g post) 0 0 (HA g) := by
  refine Met.ofW (cc := cX9_newLine) (maxL := 1) (ret := none) (by decide) rfl ?_
  intro p e s m args below meth c s₁ B hml hv
  obtain ⟨rfl, hK, hM⟩ := hv
  have hx := B.exec
  have hb := B.bytes
  have hr : meth.sig.returnType = none := B.returns
  have hts := atoms_spec (ws := ws_ yX9_newLine cX9_newLine 1 none) B.pre
  have hts : ∀ w ∈ lw_all, w.before _ s = true := fun w h => hts w (List.mem_cons_of_mem _ h)
  have hown : s.vm.findClass RX9 = some m.cls := findClass_of_methodNamed B.named
  have hlocks : meth.locks = false := B.notSynchronized
  have S : CallFix p m c cX9_newLine 1 s _ lw_all RX9 := ⟨hx, hb, hml, hown, hts⟩
  have hS : va_S (HA g) s.heap s.heap [] := va_S.rf
  have hl := lv_entry ([.ref (mh g)]) (n := 1) (Nat.le_of_ble_eq_true rfl)
  rw [lg_entry_eq]
  generalize (lg_sl ([.ref (mh g)]) ++ List.replicate (1 - (lg_sl ([.ref (mh g)])).length) Slot.unset).toArray = ls at hl ⊢
  have hl : lv_has ls 1 [(0, .ref (mh g))] := hl
  unfold w9_newLine at hw
  refine lv_aload_n hx hb dX9_newLine_0 rfl (lv_at hl 0 rfl) ?_
  refine mo_geta S hK hM 3 (by decide) q782 dX9_newLine_1 rfl ?_
  refine lv_iconst (v := 0) hx hb dX9_newLine_4 (by decide) ?_
  refine lv_iconst (v := 0) hx hb dX9_newLine_5 (by decide) ?_
  have hin := hw.1
  have hw := hw.2
  refine mo_ast S hK hI hM hS 3 rfl hin dX9_newLine_6 (fun H locs hM hS => ?_)
  refine lv_aload_n hx hb dX9_newLine_7 rfl (lv_at hl 0 rfl) ?_
  refine mo_geta S hK hM 2 (by decide) q781 dX9_newLine_8 rfl ?_
  refine lv_iconst (v := 0) hx hb dX9_newLine_11 (by decide) ?_
  have hin := hw.1
  have hw := hw.2
  refine mo_ald S hK hM 2 rfl hin dX9_newLine_12 ?_
  refine lv_bipush (v := 7) hx hb dX9_newLine_13 (by decide) ?_
  refine lv_icmp_ge (tgt := 31) hx hb dX9_newLine_15 (by decide) (fun c1 => ?_) (fun c1 => ?_)
  · have hw := hw.1 c1
    refine lv_aload_n hx hb dX9_newLine_31 rfl (lv_at hl 0 rfl) ?_
    refine lv_iconst (v := 0) hx hb dX9_newLine_32 (by decide) ?_
    refine lv_iconst (v := 1) hx hb dX9_newLine_33 (by decide) ?_
    refine mo_callv (As := [.int 0, .int 1]) S hK hM hS (m9_scrolls l g V (au A 3 (0 : Int32).toNatClampNeg 0) 0 1 _ hI hw) (cwV 2 hts (lw_V q941 q943 qs19 q64 q944) rfl rfl rfl (by decide +kernel) ⟨Nat.le_of_ble_eq_true rfl, Nat.le_of_ble_eq_true rfl⟩) rfl hl.1 rfl (lv_room (Nat.le_of_ble_eq_true rfl)) dX9_newLine_34 ⟨Nat.zero_le _, Nat.zero_le _⟩ (fun V2 A3 H locs hw hM hS => ?_)
    exact mo_vret S hr hlocks hM hS hw dX9_newLine_37
  · have hw := hw.2 c1
    refine lv_aload_n hx hb dX9_newLine_18 rfl (lv_at hl 0 rfl) ?_
    refine mo_geta S hK hM 2 (by decide) q781 dX9_newLine_19 rfl ?_
    refine lv_iconst (v := 0) hx hb dX9_newLine_22 (by decide) ?_
    refine lv_dup2_11 hx hb dX9_newLine_23 rfl rfl ?_
    have hin := hw.1
    have hw := hw.2
    refine mo_ald S hK hM 2 rfl hin dX9_newLine_24 ?_
    refine lv_iconst (v := 1) hx hb dX9_newLine_25 (by decide) ?_
    refine lv_iadd hx hb dX9_newLine_26 ?_
    have hin := hw.1
    have hw := hw.2
    refine mo_ast S hK hI hM hS 2 rfl hin dX9_newLine_27 (fun H locs hM hS => ?_)
    refine lv_goto (tgt := 37) hx hb dX9_newLine_28 (by decide) ?_
    exact mo_vret S hr hlocks hM hS hw dX9_newLine_37
/-! FarTypewriterModel.puts(I)V -/
abbrev rm9_puts : Room := { frames := 3, cells := 0, slots := 0, locals := 67 }
def w9_puts (post : VV → AA → Prop) (V : VV) (A : AA) (x1 : Int32) : Prop :=
  vp_in 0 69 ∧ (vp_in 0 69 ∧ (∀ y2_1 : Int32, y2_1 = (24 * (A 2 (0 : Int32).toNatClampNeg)) + (A 3 (0 : Int32).toNatClampNeg) → (vp_in y2_1 13248 ∧ (vp_in y2_1 13248 ∧ (vp_in 0 69 ∧ ((((au (au A 0 y2_1.toNatClampNeg x1) 1 y2_1.toNatClampNeg (V 6)) 3 (0 : Int32).toNatClampNeg) = 23 → w9_newLine (fun (V3 : VV) (A4 : AA) => post V3 A4) V (au (au A 0 y2_1.toNatClampNeg x1) 1 y2_1.toNatClampNeg (V 6)) ) ∧ (¬ ((au (au A 0 y2_1.toNatClampNeg x1) 1 y2_1.toNatClampNeg (V 6)) 3 (0 : Int32).toNatClampNeg) = 23 → vp_in 0 69 ∧ (vp_in 0 69 ∧ post V (au (au (au A 0 y2_1.toNatClampNeg x1) 1 y2_1.toNatClampNeg (V 6)) 3 (0 : Int32).toNatClampNeg (((au (au A 0 y2_1.toNatClampNeg x1) 1 y2_1.toNatClampNeg (V 6)) 3 (0 : Int32).toNatClampNeg) + 1))))))))))
set_option maxHeartbeats 4000000 in
set_option maxRecDepth 100000 in
theorem m9_puts (l : Launch) (g : MG) (V : VV) (A : AA) (x1 : Int32) (post : VV → AA → Prop) (hI : HI g) (hw : w9_puts post V A x1) : Met l yX9_puts (ws_ yX9_puts cX9_puts 3 none) rm9_puts (MPc g V A [.ref (mh g), .int x1]) (MQv g post) 0 0 (HA g) := by
  refine Met.ofW (cc := cX9_puts) (maxL := 3) (ret := none) (by decide) rfl ?_
  intro p e s m args below meth c s₁ B hml hv
  obtain ⟨rfl, hK, hM⟩ := hv
  have hx := B.exec
  have hb := B.bytes
  have hr : meth.sig.returnType = none := B.returns
  have hts := atoms_spec (ws := ws_ yX9_puts cX9_puts 3 none) B.pre
  have hts : ∀ w ∈ lw_all, w.before _ s = true := fun w h => hts w (List.mem_cons_of_mem _ h)
  have hown : s.vm.findClass RX9 = some m.cls := findClass_of_methodNamed B.named
  have hlocks : meth.locks = false := B.notSynchronized
  have S : CallFix p m c cX9_puts 3 s _ lw_all RX9 := ⟨hx, hb, hml, hown, hts⟩
  have hS : va_S (HA g) s.heap s.heap [] := va_S.rf
  have hl := lv_entry ([.ref (mh g), .int x1]) (n := 3) (Nat.le_of_ble_eq_true rfl)
  rw [lg_entry_eq]
  generalize (lg_sl ([.ref (mh g), .int x1]) ++ List.replicate (3 - (lg_sl ([.ref (mh g), .int x1])).length) Slot.unset).toArray = ls at hl ⊢
  have hl : lv_has ls 3 [(0, .ref (mh g)), (1, .int x1)] := hl
  unfold w9_puts at hw
  refine lv_bipush (v := 24) hx hb dX9_puts_0 (by decide) ?_
  refine lv_aload_n hx hb dX9_puts_2 rfl (lv_at hl 0 rfl) ?_
  refine mo_geta S hK hM 2 (by decide) q781 dX9_puts_3 rfl ?_
  refine lv_iconst (v := 0) hx hb dX9_puts_6 (by decide) ?_
  have hin := hw.1
  have hw := hw.2
  refine mo_ald S hK hM 2 rfl hin dX9_puts_7 ?_
  refine lv_imul hx hb dX9_puts_8 ?_
  refine lv_aload_n hx hb dX9_puts_9 rfl (lv_at hl 0 rfl) ?_
  refine mo_geta S hK hM 3 (by decide) q782 dX9_puts_10 rfl ?_
  refine lv_iconst (v := 0) hx hb dX9_puts_13 (by decide) ?_
  have hin := hw.1
  have hw := hw.2
  refine mo_ald S hK hM 3 rfl hin dX9_puts_14 ?_
  refine lv_iadd hx hb dX9_puts_15 ?_
  refine lv_topi (fun y2_1 ey2_1 => ?_)
  have hw := hw y2_1 ey2_1
  refine lv_istore_n (lv' := [(2, .int y2_1), (0, .ref (mh g)), (1, .int x1)]) hx hb dX9_puts_16 rfl hl (by decide) rfl (fun ls hl => ?_)
  refine lv_aload_n hx hb dX9_puts_17 rfl (lv_at hl 1 rfl) ?_
  refine mo_geta S hK hM 0 (by decide) q779 dX9_puts_18 rfl ?_
  refine lv_iload_n hx hb dX9_puts_21 rfl (lv_at hl 0 rfl) ?_
  refine lv_iload_n hx hb dX9_puts_22 rfl (lv_at hl 2 rfl) ?_
  have hin := hw.1
  have hw := hw.2
  refine mo_ast S hK hI hM hS 0 rfl hin dX9_puts_23 (fun H locs hM hS => ?_)
  refine lv_aload_n hx hb dX9_puts_24 rfl (lv_at hl 1 rfl) ?_
  refine mo_geta S hK hM 1 (by decide) q780 dX9_puts_25 rfl ?_
  refine lv_iload_n hx hb dX9_puts_28 rfl (lv_at hl 0 rfl) ?_
  refine lv_aload_n hx hb dX9_puts_29 rfl (lv_at hl 1 rfl) ?_
  refine mo_geti S hK hM 6 (by decide) q785 dX9_puts_30 rfl ?_
  have hin := hw.1
  have hw := hw.2
  refine mo_ast S hK hI hM hS 1 rfl hin dX9_puts_33 (fun H locs hM hS => ?_)
  refine lv_aload_n hx hb dX9_puts_34 rfl (lv_at hl 1 rfl) ?_
  refine mo_geta S hK hM 3 (by decide) q782 dX9_puts_35 rfl ?_
  refine lv_iconst (v := 0) hx hb dX9_puts_38 (by decide) ?_
  have hin := hw.1
  have hw := hw.2
  refine mo_ald S hK hM 3 rfl hin dX9_puts_39 ?_
  refine lv_bipush (v := 23) hx hb dX9_puts_40 (by decide) ?_
  refine lv_icmp_ne (tgt := 52) hx hb dX9_puts_42 (by decide) (fun c2 => ?_) (fun c2 => ?_)
  · have hw := hw.2 c2
    refine lv_aload_n hx hb dX9_puts_52 rfl (lv_at hl 1 rfl) ?_
    refine mo_geta S hK hM 3 (by decide) q782 dX9_puts_53 rfl ?_
    refine lv_iconst (v := 0) hx hb dX9_puts_56 (by decide) ?_
    refine lv_dup2_11 hx hb dX9_puts_57 rfl rfl ?_
    have hin := hw.1
    have hw := hw.2
    refine mo_ald S hK hM 3 rfl hin dX9_puts_58 ?_
    refine lv_iconst (v := 1) hx hb dX9_puts_59 (by decide) ?_
    refine lv_iadd hx hb dX9_puts_60 ?_
    have hin := hw.1
    have hw := hw.2
    refine mo_ast S hK hI hM hS 3 rfl hin dX9_puts_61 (fun H locs hM hS => ?_)
    exact mo_vret S hr hlocks hM hS hw dX9_puts_62
  · have hw := hw.1 c2
    refine lv_aload_n hx hb dX9_puts_45 rfl (lv_at hl 1 rfl) ?_
    refine mo_callv (As := []) S hK hM hS (m9_newLine l g V (au (au A 0 y2_1.toNatClampNeg x1) 1 y2_1.toNatClampNeg (V 6))  _ hI hw) (cwV 0 hts (lw_V q937 q939 qs18 q64 q940) rfl rfl rfl (by decide +kernel) ⟨Nat.le_of_ble_eq_true rfl, Nat.le_of_ble_eq_true rfl⟩) rfl hl.1 rfl (lv_room (Nat.le_of_ble_eq_true rfl)) dX9_puts_46 ⟨Nat.zero_le _, Nat.zero_le _⟩ (fun V3 A4 H locs hw hM hS => ?_)
    refine lv_goto (tgt := 62) hx hb dX9_puts_49 (by decide) ?_
    exact mo_vret S hr hlocks hM hS hw dX9_puts_62
/-! FarTypewriterModel.back()V -/
abbrev rm9_back : Room := { frames := 1, cells := 0, slots := 0, locals := 24 }
def w9_back (post : VV → AA → Prop) (V : VV) (A : AA) : Prop :=
  vp_in 0 69 ∧ (((A 3 (0 : Int32).toNatClampNeg) = 0 → post V A) ∧ (¬ (A 3 (0 : Int32).toNatClampNeg) = 0 → vp_in 0 69 ∧ (vp_in 0 69 ∧ (vp_in 0 69 ∧ (vp_in 0 69 ∧ (∀ y1_2 : Int32, y1_2 = (24 * ((au A 3 (0 : Int32).toNatClampNeg ((A 3 (0 : Int32).toNatClampNeg) - 1)) 2 (0 : Int32).toNatClampNeg)) + ((au A 3 (0 : Int32).toNatClampNeg ((A 3 (0 : Int32).toNatClampNeg) - 1)) 3 (0 : Int32).toNatClampNeg) → (w9_blank (fun (V3 : VV) (A4 : AA) => post V3 A4) V (au A 3 (0 : Int32).toNatClampNeg ((A 3 (0 : Int32).toNatClampNeg) - 1)) 0 y1_2 (y1_2 + 1))))))))
set_option maxHeartbeats 4000000 in
set_option maxRecDepth 100000 in
theorem m9_back (l : Launch) (g : MG) (V : VV) (A : AA) (post : VV → AA → Prop) (hI : HI g) (hw : w9_back post V A ) : Met l yX9_back (ws_ yX9_back cX9_back 2 none) rm9_back (MPc g V A [.ref (mh g)]) (MQv g post) 0 0 (HA g) := by
  refine Met.ofW (cc := cX9_back) (maxL := 2) (ret := none) (by decide) rfl ?_
  intro p e s m args below meth c s₁ B hml hv
  obtain ⟨rfl, hK, hM⟩ := hv
  have hx := B.exec
  have hb := B.bytes
  have hr : meth.sig.returnType = none := B.returns
  have hts := atoms_spec (ws := ws_ yX9_back cX9_back 2 none) B.pre
  have hts : ∀ w ∈ lw_all, w.before _ s = true := fun w h => hts w (List.mem_cons_of_mem _ h)
  have hown : s.vm.findClass RX9 = some m.cls := findClass_of_methodNamed B.named
  have hlocks : meth.locks = false := B.notSynchronized
  have S : CallFix p m c cX9_back 2 s _ lw_all RX9 := ⟨hx, hb, hml, hown, hts⟩
  have hS : va_S (HA g) s.heap s.heap [] := va_S.rf
  have hl := lv_entry ([.ref (mh g)]) (n := 2) (Nat.le_of_ble_eq_true rfl)
  rw [lg_entry_eq]
  generalize (lg_sl ([.ref (mh g)]) ++ List.replicate (2 - (lg_sl ([.ref (mh g)])).length) Slot.unset).toArray = ls at hl ⊢
  have hl : lv_has ls 2 [(0, .ref (mh g))] := hl
  unfold w9_back at hw
  refine lv_aload_n hx hb dX9_back_0 rfl (lv_at hl 0 rfl) ?_
  refine mo_geta S hK hM 3 (by decide) q782 dX9_back_1 rfl ?_
  refine lv_iconst (v := 0) hx hb dX9_back_4 (by decide) ?_
  have hin := hw.1
  have hw := hw.2
  refine mo_ald S hK hM 3 rfl hin dX9_back_5 ?_
  refine lv_if_ne (tgt := 10) hx hb dX9_back_6 (by decide) (fun c1 => ?_) (fun c1 => ?_)
  · have hw := hw.2 c1
    refine lv_aload_n hx hb dX9_back_10 rfl (lv_at hl 0 rfl) ?_
    refine mo_geta S hK hM 3 (by decide) q782 dX9_back_11 rfl ?_
    refine lv_iconst (v := 0) hx hb dX9_back_14 (by decide) ?_
    refine lv_dup2_11 hx hb dX9_back_15 rfl rfl ?_
    have hin := hw.1
    have hw := hw.2
    refine mo_ald S hK hM 3 rfl hin dX9_back_16 ?_
    refine lv_iconst (v := 1) hx hb dX9_back_17 (by decide) ?_
    refine lv_isub hx hb dX9_back_18 ?_
    have hin := hw.1
    have hw := hw.2
    refine mo_ast S hK hI hM hS 3 rfl hin dX9_back_19 (fun H locs hM hS => ?_)
    refine lv_bipush (v := 24) hx hb dX9_back_20 (by decide) ?_
    refine lv_aload_n hx hb dX9_back_22 rfl (lv_at hl 0 rfl) ?_
    refine mo_geta S hK hM 2 (by decide) q781 dX9_back_23 rfl ?_
    refine lv_iconst (v := 0) hx hb dX9_back_26 (by decide) ?_
    have hin := hw.1
    have hw := hw.2
    refine mo_ald S hK hM 2 rfl hin dX9_back_27 ?_
    refine lv_imul hx hb dX9_back_28 ?_
    refine lv_aload_n hx hb dX9_back_29 rfl (lv_at hl 0 rfl) ?_
    refine mo_geta S hK hM 3 (by decide) q782 dX9_back_30 rfl ?_
    refine lv_iconst (v := 0) hx hb dX9_back_33 (by decide) ?_
    have hin := hw.1
    have hw := hw.2
    refine mo_ald S hK hM 3 rfl hin dX9_back_34 ?_
    refine lv_iadd hx hb dX9_back_35 ?_
    refine lv_topi (fun y1_2 ey1_2 => ?_)
    have hw := hw y1_2 ey1_2
    refine lv_istore_n (lv' := [(1, .int y1_2), (0, .ref (mh g))]) hx hb dX9_back_36 rfl hl (by decide) rfl (fun ls hl => ?_)
    refine lv_aload_n hx hb dX9_back_37 rfl (lv_at hl 1 rfl) ?_
    refine lv_iconst (v := 0) hx hb dX9_back_38 (by decide) ?_
    refine lv_iload_n hx hb dX9_back_39 rfl (lv_at hl 0 rfl) ?_
    refine lv_iload_n hx hb dX9_back_40 rfl (lv_at hl 0 rfl) ?_
    refine lv_iconst (v := 1) hx hb dX9_back_41 (by decide) ?_
    refine lv_iadd hx hb dX9_back_42 ?_
    refine mo_callv (As := [.int 0, .int y1_2, .int (y1_2 + 1)]) S hK hM hS (m9_blank l g V (au A 3 (0 : Int32).toNatClampNeg ((A 3 (0 : Int32).toNatClampNeg) - 1)) 0 y1_2 (y1_2 + 1) _ hI hw) (cwV 3 hts (lw_V q775 q777 qs16 q64 q778) rfl rfl rfl (by decide +kernel) ⟨Nat.le_of_ble_eq_true rfl, Nat.le_of_ble_eq_true rfl⟩) rfl hl.1 rfl (lv_room (Nat.le_of_ble_eq_true rfl)) dX9_back_43 ⟨Nat.zero_le _, Nat.zero_le _⟩ (fun V3 A4 H locs hw hM hS => ?_)
    exact mo_vret S hr hlocks hM hS hw dX9_back_46
  · have hw := hw.1 c1
    exact mo_vret S hr hlocks hM hS hw dX9_back_9
/-! FarTypewriterModel.write(I)Z -/
abbrev rm9_write : Room := { frames := 4, cells := 0, slots := 0, locals := 89 }
def w9_write_38 (post : Int32 → VV → AA → Prop)  (V : VV) (A : AA) (x1 : Int32) : Prop :=
  w9_isLetter (fun (r9 : Int32) (V7 : VV) (A8 : AA) => (r9 = 0 → (x1 = 13 → post 1 V7 A8) ∧ (¬ x1 = 13 → (x1 = 8 → post 1 V7 A8) ∧ (¬ x1 = 8 → post 0 V7 A8))) ∧ (¬ r9 = 0 → post 1 V7 A8)) V A x1
set_option maxHeartbeats 4000000 in
set_option maxRecDepth 100000 in
theorem r9_write_38 {p : Program} {l : Launch} {e : Env} {s : State} {m : MethodId} {args : Array Value} {below : List Frame} {meth : Method} {c : Code} {g : MG} (S : CallFix p m c cX9_write 2 s args lw_all RX9) (hr : meth.sig.returnType = (some .boolean)) (hlocks : meth.locks = false) (hK : KM g s) (hI : HI g) {post : Int32 → VV → AA → Prop}  : ∀ (V : VV) (A : AA) (x1 : Int32), w9_write_38 post  V A x1 → ∀ (H : Heap) (locs : List Loc), HM g V A H → va_S (HA g) s.heap H locs → ∀ (ls : Array Slot), lv_has ls 2 [(1, .int x1)] → W p l e rm9_write s m args below meth c H locs 0 0 (MQ below (MQi g post) args s 0 0 (HA g)) (F0 m 38 ls []) := by
  have hx := S.1
  have hb := S.2.1
  have hown := S.2.2.2.1
  have hts := S.2.2.2.2
  intro V A x1 hw H locs hM hS ls hl
  unfold w9_write_38 at hw
  refine lv_iload_n hx hb dX9_write_38 rfl (lv_at hl 0 rfl) ?_
  refine mo_scalli (As := [.int x1]) S hK hM hS (m9_isLetter l g V A x1 _ hI hw) (va_cwS 1 hts (lw_S q930 q931 q64 q932) rfl rfl rfl (by decide +kernel) ⟨Nat.le_of_ble_eq_true rfl, Nat.le_of_ble_eq_true rfl⟩) rfl hl.1 rfl (lv_room (Nat.le_of_ble_eq_true rfl)) dX9_write_39 ⟨Nat.zero_le _, Nat.zero_le _⟩ (fun r9 V7 A8 H locs hw hM hS => ?_)
  refine lv_if_ne (tgt := 57) hx hb dX9_write_42 (by decide) (fun c10 => ?_) (fun c10 => ?_)
  · have hw := hw.2 c10
    refine lv_iconst (v := 1) hx hb dX9_write_57 (by decide) ?_
    refine lv_goto (tgt := 62) hx hb dX9_write_58 (by decide) ?_
    exact mo_zret S hr hlocks hM hS rfl hw dX9_write_62
  · have hw := hw.1 c10
    refine lv_iload_n hx hb dX9_write_45 rfl (lv_at hl 0 rfl) ?_
    refine lv_bipush (v := 13) hx hb dX9_write_46 (by decide) ?_
    refine lv_icmp_eq (tgt := 57) hx hb dX9_write_48 (by decide) (fun c11 => ?_) (fun c11 => ?_)
    · have hw := hw.1 c11
      refine lv_iconst (v := 1) hx hb dX9_write_57 (by decide) ?_
      refine lv_goto (tgt := 62) hx hb dX9_write_58 (by decide) ?_
      exact mo_zret S hr hlocks hM hS rfl hw dX9_write_62
    · have hw := hw.2 c11
      refine lv_iload_n hx hb dX9_write_51 rfl (lv_at hl 0 rfl) ?_
      refine lv_bipush (v := 8) hx hb dX9_write_52 (by decide) ?_
      refine lv_icmp_ne (tgt := 61) hx hb dX9_write_54 (by decide) (fun c12 => ?_) (fun c12 => ?_)
      · have hw := hw.2 c12
        refine lv_iconst (v := 0) hx hb dX9_write_61 (by decide) ?_
        exact mo_zret S hr hlocks hM hS rfl hw dX9_write_62
      · have hw := hw.1 c12
        refine lv_iconst (v := 1) hx hb dX9_write_57 (by decide) ?_
        refine lv_goto (tgt := 62) hx hb dX9_write_58 (by decide) ?_
        exact mo_zret S hr hlocks hM hS rfl hw dX9_write_62
def w9_write (post : Int32 → VV → AA → Prop) (V : VV) (A : AA) (x1 : Int32) : Prop :=
  w9_isLetter (fun (r3 : Int32) (V1 : VV) (A2 : AA) => (r3 = 0 → (x1 = 13 → w9_newLine (fun (V16 : VV) (A17 : AA) => w9_write_38 post V16 A17 x1) V1 A2 ) ∧ (¬ x1 = 13 → (x1 = 8 → w9_back (fun (V13 : VV) (A14 : AA) => w9_write_38 post V13 A14 x1) V1 A2 ) ∧ (¬ x1 = 8 → w9_write_38 post V1 A2 x1))) ∧ (¬ r3 = 0 → w9_puts (fun (V19 : VV) (A20 : AA) => w9_write_38 post V19 A20 x1) V1 A2 x1)) V A x1
set_option maxHeartbeats 4000000 in
set_option maxRecDepth 100000 in
theorem m9_write (l : Launch) (g : MG) (V : VV) (A : AA) (x1 : Int32) (post : Int32 → VV → AA → Prop) (hI : HI g) (hw : w9_write post V A x1) : Met l yX9_write (ws_ yX9_write cX9_write 2 (some .boolean)) rm9_write (MPc g V A [.ref (mh g), .int x1]) (MQi g post) 0 0 (HA g) := by
  refine Met.ofW (cc := cX9_write) (maxL := 2) (ret := (some .boolean)) (by decide) rfl ?_
  intro p e s m args below meth c s₁ B hml hv
  obtain ⟨rfl, hK, hM⟩ := hv
  have hx := B.exec
  have hb := B.bytes
  have hr : meth.sig.returnType = (some .boolean) := B.returns
  have hts := atoms_spec (ws := ws_ yX9_write cX9_write 2 (some .boolean)) B.pre
  have hts : ∀ w ∈ lw_all, w.before _ s = true := fun w h => hts w (List.mem_cons_of_mem _ h)
  have hown : s.vm.findClass RX9 = some m.cls := findClass_of_methodNamed B.named
  have hlocks : meth.locks = false := B.notSynchronized
  have S : CallFix p m c cX9_write 2 s _ lw_all RX9 := ⟨hx, hb, hml, hown, hts⟩
  have hS : va_S (HA g) s.heap s.heap [] := va_S.rf
  have hl := lv_entry ([.ref (mh g), .int x1]) (n := 2) (Nat.le_of_ble_eq_true rfl)
  rw [lg_entry_eq]
  generalize (lg_sl ([.ref (mh g), .int x1]) ++ List.replicate (2 - (lg_sl ([.ref (mh g), .int x1])).length) Slot.unset).toArray = ls at hl ⊢
  have hl : lv_has ls 2 [(0, .ref (mh g)), (1, .int x1)] := hl
  unfold w9_write at hw
  refine lv_iload_n hx hb dX9_write_0 rfl (lv_at hl 1 rfl) ?_
  refine mo_scalli (As := [.int x1]) S hK hM hS (m9_isLetter l g V A x1 _ hI hw) (va_cwS 1 hts (lw_S q930 q931 q64 q932) rfl rfl rfl (by decide +kernel) ⟨Nat.le_of_ble_eq_true rfl, Nat.le_of_ble_eq_true rfl⟩) rfl hl.1 rfl (lv_room (Nat.le_of_ble_eq_true rfl)) dX9_write_1 ⟨Nat.zero_le _, Nat.zero_le _⟩ (fun r3 V1 A2 H locs hw hM hS => ?_)
  refine lv_if_eq (tgt := 15) hx hb dX9_write_4 (by decide) (fun c4 => ?_) (fun c4 => ?_)
  · have hw := hw.1 c4
    refine lv_iload_n hx hb dX9_write_15 rfl (lv_at hl 1 rfl) ?_
    refine lv_bipush (v := 13) hx hb dX9_write_16 (by decide) ?_
    refine lv_icmp_ne (tgt := 28) hx hb dX9_write_18 (by decide) (fun c5 => ?_) (fun c5 => ?_)
    · have hw := hw.2 c5
      refine lv_iload_n hx hb dX9_write_28 rfl (lv_at hl 1 rfl) ?_
      refine lv_bipush (v := 8) hx hb dX9_write_29 (by decide) ?_
      refine lv_icmp_ne (tgt := 38) hx hb dX9_write_31 (by decide) (fun c6 => ?_) (fun c6 => ?_)
      · have hw := hw.2 c6
        exact r9_write_38 S hr hlocks hK hI  _ _ _ hw _ _ hM hS _ (lv_sub hl [1] rfl)
      · have hw := hw.1 c6
        refine lv_aload_n hx hb dX9_write_34 rfl (lv_at hl 0 rfl) ?_
        refine mo_callv (As := []) S hK hM hS (m9_back l g V1 A2  _ hI hw) (cwV 0 hts (lw_V q945 q947 qs20 q64 q948) rfl rfl rfl (by decide +kernel) ⟨Nat.le_of_ble_eq_true rfl, Nat.le_of_ble_eq_true rfl⟩) rfl hl.1 rfl (lv_room (Nat.le_of_ble_eq_true rfl)) dX9_write_35 ⟨Nat.zero_le _, Nat.zero_le _⟩ (fun V13 A14 H locs hw hM hS => ?_)
        exact r9_write_38 S hr hlocks hK hI  _ _ _ hw _ _ hM hS _ (lv_sub hl [1] rfl)
    · have hw := hw.1 c5
      refine lv_aload_n hx hb dX9_write_21 rfl (lv_at hl 0 rfl) ?_
      refine mo_callv (As := []) S hK hM hS (m9_newLine l g V1 A2  _ hI hw) (cwV 0 hts (lw_V q937 q939 qs18 q64 q940) rfl rfl rfl (by decide +kernel) ⟨Nat.le_of_ble_eq_true rfl, Nat.le_of_ble_eq_true rfl⟩) rfl hl.1 rfl (lv_room (Nat.le_of_ble_eq_true rfl)) dX9_write_22 ⟨Nat.zero_le _, Nat.zero_le _⟩ (fun V16 A17 H locs hw hM hS => ?_)
      refine lv_goto (tgt := 38) hx hb dX9_write_25 (by decide) ?_
      exact r9_write_38 S hr hlocks hK hI  _ _ _ hw _ _ hM hS _ (lv_sub hl [1] rfl)
  · have hw := hw.2 c4
    refine lv_aload_n hx hb dX9_write_7 rfl (lv_at hl 0 rfl) ?_
    refine lv_iload_n hx hb dX9_write_8 rfl (lv_at hl 1 rfl) ?_
    refine mo_callv (As := [.int x1]) S hK hM hS (m9_puts l g V1 A2 x1 _ hI hw) (cwV 1 hts (lw_V q933 q935 qs17 q64 q936) rfl rfl rfl (by decide +kernel) ⟨Nat.le_of_ble_eq_true rfl, Nat.le_of_ble_eq_true rfl⟩) rfl hl.1 rfl (lv_room (Nat.le_of_ble_eq_true rfl)) dX9_write_9 ⟨Nat.zero_le _, Nat.zero_le _⟩ (fun V19 A20 H locs hw hM hS => ?_)
    refine lv_goto (tgt := 38) hx hb dX9_write_12 (by decide) ?_
    exact r9_write_38 S hr hlocks hK hI  _ _ _ hw _ _ hM hS _ (lv_sub hl [1] rfl)
