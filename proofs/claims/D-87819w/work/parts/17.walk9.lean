/-! FarTypewriterModel.roam()I -/
abbrev rm9_roam : Room := { frames := 0, cells := 0, slots := 0, locals := 0 }
def w9_roam_21 (post : Int32 → VV → AA → Prop)  (V : VV) (A : AA) (t0 : Int32) : Prop :=
  post ((vu (vu V 27 t0) 26 1) 27) (vu (vu V 27 t0) 26 1) A
set_option maxHeartbeats 4000000 in
set_option maxRecDepth 100000 in
theorem r9_roam_21 {p : Program} {l : Launch} {e : Env} {s : State} {m : MethodId} {args : Array Value} {below : List Frame} {meth : Method} {c : Code} {g : MG} (S : CallFix p m c cX9_roam 1 s args lw_all RX9) (hr : meth.sig.returnType = (some .int)) (hlocks : meth.locks = false) (hK : KM g s) (hI : HI g) {post : Int32 → VV → AA → Prop}  : ∀ (V : VV) (A : AA) (t0 : Int32), w9_roam_21 post  V A t0 → ∀ (H : Heap) (locs : List Loc), HM g V A H → va_S (HA g) s.heap H locs → ∀ (ls : Array Slot), lv_has ls 1 [(0, .ref (mh g))] → W p l e rm9_roam s m args below meth c H locs 0 0 (MQ below (MQi g post) args s 0 0 (HA g)) (F0 m 21 ls [.int t0, .ref (mh g)]) := by
  have hx := S.1
  have hb := S.2.1
  have hown := S.2.2.2.1
  have hts := S.2.2.2.2
  intro V A t0 hw H locs hM hS ls hl
  unfold w9_roam_21 at hw
  refine mo_put S hK hI hM hS 27 (by decide) q806 dX9_roam_21 rfl rfl ⟨rfl, rfl⟩ (fun H locs hM hS => ?_)
  refine lv_aload_n hx hb dX9_roam_24 rfl (lv_at hl 0 rfl) ?_
  refine lv_iconst (v := 1) hx hb dX9_roam_25 (by decide) ?_
  refine mo_put S hK hI hM hS 26 (by decide) q805 dX9_roam_26 rfl rfl ⟨rfl, rfl⟩ (fun H locs hM hS => ?_)
  refine lv_aload_n hx hb dX9_roam_29 rfl (lv_at hl 0 rfl) ?_
  refine mo_geti S hK hM 27 (by decide) q806 dX9_roam_30 rfl ?_
  exact mo_iret S hr hlocks hM hS hw dX9_roam_33
def w9_roam (post : Int32 → VV → AA → Prop) (V : VV) (A : AA) : Prop :=
  ((V 27) = 255 → w9_roam_21 post V A 1) ∧ (¬ (V 27) = 255 → w9_roam_21 post V A ((V 27) + 1))
set_option maxHeartbeats 4000000 in
set_option maxRecDepth 100000 in
theorem m9_roam (l : Launch) (g : MG) (V : VV) (A : AA) (post : Int32 → VV → AA → Prop) (hI : HI g) (hw : w9_roam post V A ) : Met l yX9_roam (ws_ yX9_roam cX9_roam 1 (some .int)) rm9_roam (MPc g V A [.ref (mh g)]) (MQi g post) 0 0 (HA g) := by
  refine Met.ofW (cc := cX9_roam) (maxL := 1) (ret := (some .int)) (by decide) rfl ?_
  intro p e s m args below meth c s₁ B hml hv
  obtain ⟨rfl, hK, hM⟩ := hv
  have hx := B.exec
  have hb := B.bytes
  have hr : meth.sig.returnType = (some .int) := B.returns
  have hts := atoms_spec (ws := ws_ yX9_roam cX9_roam 1 (some .int)) B.pre
  have hts : ∀ w ∈ lw_all, w.before _ s = true := fun w h => hts w (List.mem_cons_of_mem _ h)
  have hown : s.vm.findClass RX9 = some m.cls := findClass_of_methodNamed B.named
  have hlocks : meth.locks = false := B.notSynchronized
  have S : CallFix p m c cX9_roam 1 s _ lw_all RX9 := ⟨hx, hb, hml, hown, hts⟩
  have hS : va_S (HA g) s.heap s.heap [] := va_S.rf
  have hl := lv_entry ([.ref (mh g)]) (n := 1) (Nat.le_of_ble_eq_true rfl)
  rw [lg_entry_eq]
  generalize (lg_sl ([.ref (mh g)]) ++ List.replicate (1 - (lg_sl ([.ref (mh g)])).length) Slot.unset).toArray = ls at hl ⊢
  have hl : lv_has ls 1 [(0, .ref (mh g))] := hl
  unfold w9_roam at hw
  refine lv_aload_n hx hb dX9_roam_0 rfl (lv_at hl 0 rfl) ?_
  refine lv_aload_n hx hb dX9_roam_1 rfl (lv_at hl 0 rfl) ?_
  refine mo_geti S hK hM 27 (by decide) q806 dX9_roam_2 rfl ?_
  refine lv_sipush (v := 255) hx hb dX9_roam_5 (by decide) ?_
  refine lv_icmp_ne (tgt := 15) hx hb dX9_roam_8 (by decide) (fun c1 => ?_) (fun c1 => ?_)
  · have hw := hw.2 c1
    refine lv_aload_n hx hb dX9_roam_15 rfl (lv_at hl 0 rfl) ?_
    refine mo_geti S hK hM 27 (by decide) q806 dX9_roam_16 rfl ?_
    refine lv_iconst (v := 1) hx hb dX9_roam_19 (by decide) ?_
    refine lv_iadd hx hb dX9_roam_20 ?_
    exact r9_roam_21 S hr hlocks hK hI  _ _ _ hw _ _ hM hS _ (lv_sub hl [0] rfl)
  · have hw := hw.1 c1
    refine lv_iconst (v := 1) hx hb dX9_roam_11 (by decide) ?_
    refine lv_goto (tgt := 21) hx hb dX9_roam_12 (by decide) ?_
    exact r9_roam_21 S hr hlocks hK hI  _ _ _ hw _ _ hM hS _ (lv_sub hl [0] rfl)
/-! FarTypewriterModel.guess(IIII)V -/
abbrev rm9_guess : Room := { frames := 0, cells := 0, slots := 0, locals := 0 }
def w9_guess (post : VV → AA → Prop) (V : VV) (A : AA) (x1 x2 x3 x4 : Int32) : Prop :=
  ((V 37) = 60 → post V A) ∧ (¬ (V 37) = 60 → vp_in (V 37) 60 ∧ (vp_in (V 37) 60 ∧ (vp_in (V 37) 60 ∧ (vp_in (V 37) 60 ∧ (vp_in (V 37) 60 ∧ (vp_in (V 37) 60 ∧ post (vu V 37 ((V 37) + 1)) (au (au (au (au (au (au A 40 (V 37).toNatClampNeg (V 21)) 41 (V 37).toNatClampNeg (V 39)) 42 (V 37).toNatClampNeg x1) 43 (V 37).toNatClampNeg x2) 44 (V 37).toNatClampNeg x3) 45 (V 37).toNatClampNeg x4)))))))
set_option maxHeartbeats 4000000 in
set_option maxRecDepth 100000 in
theorem m9_guess (l : Launch) (g : MG) (V : VV) (A : AA) (x1 x2 x3 x4 : Int32) (post : VV → AA → Prop) (hI : HI g) (hw : w9_guess post V A x1 x2 x3 x4) : Met l yX9_guess (ws_ yX9_guess cX9_guess 5 none) rm9_guess (MPc g V A [.ref (mh g), .int x1, .int x2, .int x3, .int x4]) (MQv g post) 0 0 (HA g) := by
  refine Met.ofW (cc := cX9_guess) (maxL := 5) (ret := none) (by decide) rfl ?_
  intro p e s m args below meth c s₁ B hml hv
  obtain ⟨rfl, hK, hM⟩ := hv
  have hx := B.exec
  have hb := B.bytes
  have hr : meth.sig.returnType = none := B.returns
  have hts := atoms_spec (ws := ws_ yX9_guess cX9_guess 5 none) B.pre
  have hts : ∀ w ∈ lw_all, w.before _ s = true := fun w h => hts w (List.mem_cons_of_mem _ h)
  have hown : s.vm.findClass RX9 = some m.cls := findClass_of_methodNamed B.named
  have hlocks : meth.locks = false := B.notSynchronized
  have S : CallFix p m c cX9_guess 5 s _ lw_all RX9 := ⟨hx, hb, hml, hown, hts⟩
  have hS : va_S (HA g) s.heap s.heap [] := va_S.rf
  have hl := lv_entry ([.ref (mh g), .int x1, .int x2, .int x3, .int x4]) (n := 5) (Nat.le_of_ble_eq_true rfl)
  rw [lg_entry_eq]
  generalize (lg_sl ([.ref (mh g), .int x1, .int x2, .int x3, .int x4]) ++ List.replicate (5 - (lg_sl ([.ref (mh g), .int x1, .int x2, .int x3, .int x4])).length) Slot.unset).toArray = ls at hl ⊢
  have hl : lv_has ls 5 [(0, .ref (mh g)), (1, .int x1), (2, .int x2), (3, .int x3), (4, .int x4)] := hl
  unfold w9_guess at hw
  refine lv_aload_n hx hb dX9_guess_0 rfl (lv_at hl 0 rfl) ?_
  refine mo_geti S hK hM 37 (by decide) q816 dX9_guess_1 rfl ?_
  refine lv_bipush (v := 60) hx hb dX9_guess_4 (by decide) ?_
  refine lv_icmp_ne (tgt := 10) hx hb dX9_guess_6 (by decide) (fun c1 => ?_) (fun c1 => ?_)
  · have hw := hw.2 c1
    refine lv_aload_n hx hb dX9_guess_10 rfl (lv_at hl 0 rfl) ?_
    refine mo_geta S hK hM 40 (by decide) q819 dX9_guess_11 rfl ?_
    refine lv_aload_n hx hb dX9_guess_14 rfl (lv_at hl 0 rfl) ?_
    refine mo_geti S hK hM 37 (by decide) q816 dX9_guess_15 rfl ?_
    refine lv_aload_n hx hb dX9_guess_18 rfl (lv_at hl 0 rfl) ?_
    refine mo_geti S hK hM 21 (by decide) q800 dX9_guess_19 rfl ?_
    have hin := hw.1
    have hw := hw.2
    refine mo_ast S hK hI hM hS 40 rfl hin dX9_guess_22 (fun H locs hM hS => ?_)
    refine lv_aload_n hx hb dX9_guess_23 rfl (lv_at hl 0 rfl) ?_
    refine mo_geta S hK hM 41 (by decide) q820 dX9_guess_24 rfl ?_
    refine lv_aload_n hx hb dX9_guess_27 rfl (lv_at hl 0 rfl) ?_
    refine mo_geti S hK hM 37 (by decide) q816 dX9_guess_28 rfl ?_
    refine lv_aload_n hx hb dX9_guess_31 rfl (lv_at hl 0 rfl) ?_
    refine mo_geti S hK hM 39 (by decide) q818 dX9_guess_32 rfl ?_
    have hin := hw.1
    have hw := hw.2
    refine mo_ast S hK hI hM hS 41 rfl hin dX9_guess_35 (fun H locs hM hS => ?_)
    refine lv_aload_n hx hb dX9_guess_36 rfl (lv_at hl 0 rfl) ?_
    refine mo_geta S hK hM 42 (by decide) q821 dX9_guess_37 rfl ?_
    refine lv_aload_n hx hb dX9_guess_40 rfl (lv_at hl 0 rfl) ?_
    refine mo_geti S hK hM 37 (by decide) q816 dX9_guess_41 rfl ?_
    refine lv_iload_n hx hb dX9_guess_44 rfl (lv_at hl 1 rfl) ?_
    have hin := hw.1
    have hw := hw.2
    refine mo_ast S hK hI hM hS 42 rfl hin dX9_guess_45 (fun H locs hM hS => ?_)
    refine lv_aload_n hx hb dX9_guess_46 rfl (lv_at hl 0 rfl) ?_
    refine mo_geta S hK hM 43 (by decide) q822 dX9_guess_47 rfl ?_
    refine lv_aload_n hx hb dX9_guess_50 rfl (lv_at hl 0 rfl) ?_
    refine mo_geti S hK hM 37 (by decide) q816 dX9_guess_51 rfl ?_
    refine lv_iload_n hx hb dX9_guess_54 rfl (lv_at hl 2 rfl) ?_
    have hin := hw.1
    have hw := hw.2
    refine mo_ast S hK hI hM hS 43 rfl hin dX9_guess_55 (fun H locs hM hS => ?_)
    refine lv_aload_n hx hb dX9_guess_56 rfl (lv_at hl 0 rfl) ?_
    refine mo_geta S hK hM 44 (by decide) q823 dX9_guess_57 rfl ?_
    refine lv_aload_n hx hb dX9_guess_60 rfl (lv_at hl 0 rfl) ?_
    refine mo_geti S hK hM 37 (by decide) q816 dX9_guess_61 rfl ?_
    refine lv_iload_n hx hb dX9_guess_64 rfl (lv_at hl 3 rfl) ?_
    have hin := hw.1
    have hw := hw.2
    refine mo_ast S hK hI hM hS 44 rfl hin dX9_guess_65 (fun H locs hM hS => ?_)
    refine lv_aload_n hx hb dX9_guess_66 rfl (lv_at hl 0 rfl) ?_
    refine mo_geta S hK hM 45 (by decide) q824 dX9_guess_67 rfl ?_
    refine lv_aload_n hx hb dX9_guess_70 rfl (lv_at hl 0 rfl) ?_
    refine mo_geti S hK hM 37 (by decide) q816 dX9_guess_71 rfl ?_
    refine lv_iload hx hb dX9_guess_74 (lv_at hl 4 rfl) ?_
    have hin := hw.1
    have hw := hw.2
    refine mo_ast S hK hI hM hS 45 rfl hin dX9_guess_76 (fun H locs hM hS => ?_)
    refine lv_aload_n hx hb dX9_guess_77 rfl (lv_at hl 0 rfl) ?_
    refine lv_dup hx hb dX9_guess_78 rfl ?_
    refine mo_geti S hK hM 37 (by decide) q816 dX9_guess_79 rfl ?_
    refine lv_iconst (v := 1) hx hb dX9_guess_82 (by decide) ?_
    refine lv_iadd hx hb dX9_guess_83 ?_
    refine mo_put S hK hI hM hS 37 (by decide) q816 dX9_guess_84 rfl rfl ⟨rfl, rfl⟩ (fun H locs hM hS => ?_)
    exact mo_vret S hr hlocks hM hS hw dX9_guess_87
  · have hw := hw.1 c1
    exact mo_vret S hr hlocks hM hS hw dX9_guess_9
/-! FarTypewriterModel.key(I)I -/
abbrev rm9_key : Room := { frames := 1, cells := 0, slots := 0, locals := 24 }
def w9_key_250 (post : Int32 → VV → AA → Prop)  (V : VV) (A : AA) (x4 t0 : Int32) : Prop :=
  w9_isCell (fun (r18 : Int32) (V16 : VV) (A17 : AA) => (r18 = 0 → post (V16 21) V16 A17) ∧ (¬ r18 = 0 → w9_guess (fun (V20 : VV) (A21 : AA) => post (V20 21) V20 A21) V16 A17 (-1) (-1) x4 t0)) V A x4 t0
set_option maxHeartbeats 4000000 in
set_option maxRecDepth 100000 in
theorem r9_key_250 {p : Program} {l : Launch} {e : Env} {s : State} {m : MethodId} {args : Array Value} {below : List Frame} {meth : Method} {c : Code} {g : MG} (S : CallFix p m c cX9_key 7 s args lw_all RX9) (hr : meth.sig.returnType = (some .int)) (hlocks : meth.locks = false) (hK : KM g s) (hI : HI g) {post : Int32 → VV → AA → Prop}  : ∀ (V : VV) (A : AA) (x4 t0 : Int32), w9_key_250 post  V A x4 t0 → ∀ (H : Heap) (locs : List Loc), HM g V A H → va_S (HA g) s.heap H locs → ∀ (ls : Array Slot), lv_has ls 7 [(0, .ref (mh g)), (4, .int x4)] → W p l e rm9_key s m args below meth c H locs 0 0 (MQ below (MQi g post) args s 0 0 (HA g)) (F0 m 250 ls [.int t0]) := by
  have hx := S.1
  have hb := S.2.1
  have hown := S.2.2.2.1
  have hts := S.2.2.2.2
  intro V A x4 t0 hw H locs hM hS ls hl
  unfold w9_key_250 at hw
  refine lv_istore (lv' := [(6, .int t0), (0, .ref (mh g)), (4, .int x4)]) hx hb dX9_key_250 hl (by decide) rfl (fun ls hl => ?_)
  refine lv_iload hx hb dX9_key_252 (lv_at hl 2 rfl) ?_
  refine lv_iload hx hb dX9_key_254 (lv_at hl 0 rfl) ?_
  refine mo_scalli (As := [.int x4, .int t0]) S hK hM hS (m9_isCell l g V A x4 t0 _ hI hw) (va_cwS 2 hts (lw_S q953 q954 q64 q955) rfl rfl rfl (by decide +kernel) ⟨Nat.le_of_ble_eq_true rfl, Nat.le_of_ble_eq_true rfl⟩) rfl hl.1 rfl (lv_room (Nat.le_of_ble_eq_true rfl)) dX9_key_256 ⟨Nat.zero_le _, Nat.zero_le _⟩ (fun r18 V16 A17 H locs hw hM hS => ?_)
  refine lv_if_eq (tgt := 272) hx hb dX9_key_259 (by decide) (fun c19 => ?_) (fun c19 => ?_)
  · have hw := hw.1 c19
    refine lv_goto (tgt := 285) hx hb dX9_key_272 (by decide) ?_
    refine lv_aload_n hx hb dX9_key_285 rfl (lv_at hl 1 rfl) ?_
    refine mo_geti S hK hM 21 (by decide) q800 dX9_key_286 rfl ?_
    exact mo_iret S hr hlocks hM hS hw dX9_key_289
  · have hw := hw.2 c19
    refine lv_aload_n hx hb dX9_key_262 rfl (lv_at hl 1 rfl) ?_
    refine lv_iconst (v := (-1)) hx hb dX9_key_263 (by decide) ?_
    refine lv_iconst (v := (-1)) hx hb dX9_key_264 (by decide) ?_
    refine lv_iload hx hb dX9_key_265 (lv_at hl 2 rfl) ?_
    refine lv_iload hx hb dX9_key_267 (lv_at hl 0 rfl) ?_
    refine mo_callv (As := [.int (-1), .int (-1), .int x4, .int t0]) S hK hM hS (m9_guess l g V16 A17 (-1) (-1) x4 t0 _ hI hw) (cwV 4 hts (lw_V q1110 q1112 qs51 q64 q1113) rfl rfl rfl (by decide +kernel) ⟨Nat.le_of_ble_eq_true rfl, Nat.le_of_ble_eq_true rfl⟩) rfl hl.1 rfl (lv_room (Nat.le_of_ble_eq_true rfl)) dX9_key_269 ⟨Nat.zero_le _, Nat.zero_le _⟩ (fun V20 A21 H locs hw hM hS => ?_)
    refine lv_goto (tgt := 285) hx hb dX9_key_272 (by decide) ?_
    refine lv_aload_n hx hb dX9_key_285 rfl (lv_at hl 1 rfl) ?_
    refine mo_geti S hK hM 21 (by decide) q800 dX9_key_286 rfl ?_
    exact mo_iret S hr hlocks hM hS hw dX9_key_289
def w9_key_234 (post : Int32 → VV → AA → Prop)  (V : VV) (A : AA) (x1 x4 x5 : Int32) : Prop :=
  (x1 = 3 → w9_key_250 post V A x4 (x5 + 1)) ∧ (¬ x1 = 3 → w9_key_250 post V A x4 (x5 - 1))
set_option maxHeartbeats 4000000 in
set_option maxRecDepth 100000 in
theorem r9_key_234 {p : Program} {l : Launch} {e : Env} {s : State} {m : MethodId} {args : Array Value} {below : List Frame} {meth : Method} {c : Code} {g : MG} (S : CallFix p m c cX9_key 7 s args lw_all RX9) (hr : meth.sig.returnType = (some .int)) (hlocks : meth.locks = false) (hK : KM g s) (hI : HI g) {post : Int32 → VV → AA → Prop}  : ∀ (V : VV) (A : AA) (x1 x4 x5 : Int32), w9_key_234 post  V A x1 x4 x5 → ∀ (H : Heap) (locs : List Loc), HM g V A H → va_S (HA g) s.heap H locs → ∀ (ls : Array Slot), lv_has ls 7 [(0, .ref (mh g)), (1, .int x1), (4, .int x4), (5, .int x5)] → W p l e rm9_key s m args below meth c H locs 0 0 (MQ below (MQi g post) args s 0 0 (HA g)) (F0 m 234 ls []) := by
  have hx := S.1
  have hb := S.2.1
  have hown := S.2.2.2.1
  have hts := S.2.2.2.2
  intro V A x1 x4 x5 hw H locs hM hS ls hl
  unfold w9_key_234 at hw
  refine lv_iload_n hx hb dX9_key_234 rfl (lv_at hl 1 rfl) ?_
  refine lv_iconst (v := 3) hx hb dX9_key_235 (by decide) ?_
  refine lv_icmp_ne (tgt := 246) hx hb dX9_key_236 (by decide) (fun c15 => ?_) (fun c15 => ?_)
  · have hw := hw.2 c15
    refine lv_iload hx hb dX9_key_246 (lv_at hl 3 rfl) ?_
    refine lv_iconst (v := 1) hx hb dX9_key_248 (by decide) ?_
    refine lv_isub hx hb dX9_key_249 ?_
    exact r9_key_250 S hr hlocks hK hI  _ _ _ _ hw _ _ hM hS _ (lv_sub hl [0, 2] rfl)
  · have hw := hw.1 c15
    refine lv_iload hx hb dX9_key_239 (lv_at hl 3 rfl) ?_
    refine lv_iconst (v := 1) hx hb dX9_key_241 (by decide) ?_
    refine lv_iadd hx hb dX9_key_242 ?_
    refine lv_goto (tgt := 250) hx hb dX9_key_243 (by decide) ?_
    exact r9_key_250 S hr hlocks hK hI  _ _ _ _ hw _ _ hM hS _ (lv_sub hl [0, 2] rfl)
def w9_key_201 (post : Int32 → VV → AA → Prop)  (V : VV) (A : AA) (x5 t0 t1 t2 t3 : Int32) : Prop :=
  w9_guess (fun (V26 : VV) (A27 : AA) => (x5 = 23 → post ((vu V26 39 ((V26 39) + 1)) 21) (vu V26 39 ((V26 39) + 1)) A27) ∧ (¬ x5 = 23 → post (V26 21) V26 A27)) V A t3 t2 t1 t0
set_option maxHeartbeats 4000000 in
set_option maxRecDepth 100000 in
theorem r9_key_201 {p : Program} {l : Launch} {e : Env} {s : State} {m : MethodId} {args : Array Value} {below : List Frame} {meth : Method} {c : Code} {g : MG} (S : CallFix p m c cX9_key 7 s args lw_all RX9) (hr : meth.sig.returnType = (some .int)) (hlocks : meth.locks = false) (hK : KM g s) (hI : HI g) {post : Int32 → VV → AA → Prop}  : ∀ (V : VV) (A : AA) (x5 t0 t1 t2 t3 : Int32), w9_key_201 post  V A x5 t0 t1 t2 t3 → ∀ (H : Heap) (locs : List Loc), HM g V A H → va_S (HA g) s.heap H locs → ∀ (ls : Array Slot), lv_has ls 7 [(0, .ref (mh g)), (5, .int x5)] → W p l e rm9_key s m args below meth c H locs 0 0 (MQ below (MQi g post) args s 0 0 (HA g)) (F0 m 201 ls [.int t0, .int t1, .int t2, .int t3, .ref (mh g)]) := by
  have hx := S.1
  have hb := S.2.1
  have hown := S.2.2.2.1
  have hts := S.2.2.2.2
  intro V A x5 t0 t1 t2 t3 hw H locs hM hS ls hl
  unfold w9_key_201 at hw
  refine mo_callv (As := [.int t3, .int t2, .int t1, .int t0]) S hK hM hS (m9_guess l g V A t3 t2 t1 t0 _ hI hw) (cwV 4 hts (lw_V q1110 q1112 qs51 q64 q1113) rfl rfl rfl (by decide +kernel) ⟨Nat.le_of_ble_eq_true rfl, Nat.le_of_ble_eq_true rfl⟩) rfl hl.1 rfl (lv_room (Nat.le_of_ble_eq_true rfl)) dX9_key_201 ⟨Nat.zero_le _, Nat.zero_le _⟩ (fun V26 A27 H locs hw hM hS => ?_)
  refine lv_iload hx hb dX9_key_204 (lv_at hl 1 rfl) ?_
  refine lv_bipush (v := 23) hx hb dX9_key_206 (by decide) ?_
  refine lv_icmp_ne (tgt := 285) hx hb dX9_key_208 (by decide) (fun c29 => ?_) (fun c29 => ?_)
  · have hw := hw.2 c29
    refine lv_aload_n hx hb dX9_key_285 rfl (lv_at hl 0 rfl) ?_
    refine mo_geti S hK hM 21 (by decide) q800 dX9_key_286 rfl ?_
    exact mo_iret S hr hlocks hM hS hw dX9_key_289
  · have hw := hw.1 c29
    refine lv_aload_n hx hb dX9_key_211 rfl (lv_at hl 0 rfl) ?_
    refine lv_dup hx hb dX9_key_212 rfl ?_
    refine mo_geti S hK hM 39 (by decide) q818 dX9_key_213 rfl ?_
    refine lv_iconst (v := 1) hx hb dX9_key_216 (by decide) ?_
    refine lv_iadd hx hb dX9_key_217 ?_
    refine mo_put S hK hI hM hS 39 (by decide) q818 dX9_key_218 rfl rfl ⟨rfl, rfl⟩ (fun H locs hM hS => ?_)
    refine lv_goto (tgt := 285) hx hb dX9_key_221 (by decide) ?_
    refine lv_aload_n hx hb dX9_key_285 rfl (lv_at hl 0 rfl) ?_
    refine mo_geti S hK hM 21 (by decide) q800 dX9_key_286 rfl ?_
    exact mo_iret S hr hlocks hM hS hw dX9_key_289
def w9_key_155 (post : Int32 → VV → AA → Prop)  (V : VV) (A : AA) (x1 x4 t0 : Int32) : Prop :=
  w9_isLetter (fun (r12 : Int32) (V10 : VV) (A11 : AA) => (r12 = 0 → (x1 = 3 → w9_key_234 post V10 A11 x1 x4 t0) ∧ (¬ x1 = 3 → (x1 = 4 → w9_key_234 post V10 A11 x1 x4 t0) ∧ (¬ x1 = 4 → post ((vu V10 39 ((V10 39) + 1)) 21) (vu V10 39 ((V10 39) + 1)) A11))) ∧ (¬ r12 = 0 → (60 ≤ (V10 37) → post (V10 21) V10 A11) ∧ (¬ 60 ≤ (V10 37) → (23 ≤ t0 → w9_key_201 post V10 A11 t0 23 x4 x1 ((24 * x4) + t0)) ∧ (¬ 23 ≤ t0 → w9_key_201 post V10 A11 t0 (t0 + 1) x4 x1 ((24 * x4) + t0))))) V A x1
set_option maxHeartbeats 4000000 in
set_option maxRecDepth 100000 in
theorem r9_key_155 {p : Program} {l : Launch} {e : Env} {s : State} {m : MethodId} {args : Array Value} {below : List Frame} {meth : Method} {c : Code} {g : MG} (S : CallFix p m c cX9_key 7 s args lw_all RX9) (hr : meth.sig.returnType = (some .int)) (hlocks : meth.locks = false) (hK : KM g s) (hI : HI g) {post : Int32 → VV → AA → Prop}  : ∀ (V : VV) (A : AA) (x1 x4 t0 : Int32), w9_key_155 post  V A x1 x4 t0 → ∀ (H : Heap) (locs : List Loc), HM g V A H → va_S (HA g) s.heap H locs → ∀ (ls : Array Slot), lv_has ls 7 [(0, .ref (mh g)), (1, .int x1), (4, .int x4)] → W p l e rm9_key s m args below meth c H locs 0 0 (MQ below (MQi g post) args s 0 0 (HA g)) (F0 m 155 ls [.int t0]) := by
  have hx := S.1
  have hb := S.2.1
  have hown := S.2.2.2.1
  have hts := S.2.2.2.2
  intro V A x1 x4 t0 hw H locs hM hS ls hl
  unfold w9_key_155 at hw
  refine lv_istore (lv' := [(5, .int t0), (0, .ref (mh g)), (1, .int x1), (4, .int x4)]) hx hb dX9_key_155 hl (by decide) rfl (fun ls hl => ?_)
  refine lv_iload_n hx hb dX9_key_157 rfl (lv_at hl 2 rfl) ?_
  refine mo_scalli (As := [.int x1]) S hK hM hS (m9_isLetter l g V A x1 _ hI hw) (va_cwS 1 hts (lw_S q930 q931 q64 q932) rfl rfl rfl (by decide +kernel) ⟨Nat.le_of_ble_eq_true rfl, Nat.le_of_ble_eq_true rfl⟩) rfl hl.1 rfl (lv_room (Nat.le_of_ble_eq_true rfl)) dX9_key_158 ⟨Nat.zero_le _, Nat.zero_le _⟩ (fun r12 V10 A11 H locs hw hM hS => ?_)
  refine lv_if_eq (tgt := 224) hx hb dX9_key_161 (by decide) (fun c13 => ?_) (fun c13 => ?_)
  · have hw := hw.1 c13
    refine lv_iload_n hx hb dX9_key_224 rfl (lv_at hl 2 rfl) ?_
    refine lv_iconst (v := 3) hx hb dX9_key_225 (by decide) ?_
    refine lv_icmp_eq (tgt := 234) hx hb dX9_key_226 (by decide) (fun c14 => ?_) (fun c14 => ?_)
    · have hw := hw.1 c14
      exact r9_key_234 S hr hlocks hK hI  _ _ _ _ _ hw _ _ hM hS _ (lv_sub hl [1, 2, 3, 0] rfl)
    · have hw := hw.2 c14
      refine lv_iload_n hx hb dX9_key_229 rfl (lv_at hl 2 rfl) ?_
      refine lv_iconst (v := 4) hx hb dX9_key_230 (by decide) ?_
      refine lv_icmp_ne (tgt := 275) hx hb dX9_key_231 (by decide) (fun c23 => ?_) (fun c23 => ?_)
      · have hw := hw.2 c23
        refine lv_aload_n hx hb dX9_key_275 rfl (lv_at hl 1 rfl) ?_
        refine lv_dup hx hb dX9_key_276 rfl ?_
        refine mo_geti S hK hM 39 (by decide) q818 dX9_key_277 rfl ?_
        refine lv_iconst (v := 1) hx hb dX9_key_280 (by decide) ?_
        refine lv_iadd hx hb dX9_key_281 ?_
        refine mo_put S hK hI hM hS 39 (by decide) q818 dX9_key_282 rfl rfl ⟨rfl, rfl⟩ (fun H locs hM hS => ?_)
        refine lv_aload_n hx hb dX9_key_285 rfl (lv_at hl 1 rfl) ?_
        refine mo_geti S hK hM 21 (by decide) q800 dX9_key_286 rfl ?_
        exact mo_iret S hr hlocks hM hS hw dX9_key_289
      · have hw := hw.1 c23
        exact r9_key_234 S hr hlocks hK hI  _ _ _ _ _ hw _ _ hM hS _ (lv_sub hl [1, 2, 3, 0] rfl)
  · have hw := hw.2 c13
    refine lv_aload_n hx hb dX9_key_164 rfl (lv_at hl 1 rfl) ?_
    refine mo_geti S hK hM 37 (by decide) q816 dX9_key_165 rfl ?_
    refine lv_bipush (v := 60) hx hb dX9_key_168 (by decide) ?_
    refine lv_icmp_ge (tgt := 285) hx hb dX9_key_170 (by decide) (fun c24 => ?_) (fun c24 => ?_)
    · have hw := hw.1 c24
      refine lv_aload_n hx hb dX9_key_285 rfl (lv_at hl 1 rfl) ?_
      refine mo_geti S hK hM 21 (by decide) q800 dX9_key_286 rfl ?_
      exact mo_iret S hr hlocks hM hS hw dX9_key_289
    · have hw := hw.2 c24
      refine lv_aload_n hx hb dX9_key_173 rfl (lv_at hl 1 rfl) ?_
      refine lv_bipush (v := 24) hx hb dX9_key_174 (by decide) ?_
      refine lv_iload hx hb dX9_key_176 (lv_at hl 3 rfl) ?_
      refine lv_imul hx hb dX9_key_178 ?_
      refine lv_iload hx hb dX9_key_179 (lv_at hl 0 rfl) ?_
      refine lv_iadd hx hb dX9_key_181 ?_
      refine lv_iload_n hx hb dX9_key_182 rfl (lv_at hl 2 rfl) ?_
      refine lv_iload hx hb dX9_key_183 (lv_at hl 3 rfl) ?_
      refine lv_iload hx hb dX9_key_185 (lv_at hl 0 rfl) ?_
      refine lv_bipush (v := 23) hx hb dX9_key_187 (by decide) ?_
      refine lv_icmp_ge (tgt := 199) hx hb dX9_key_189 (by decide) (fun c25 => ?_) (fun c25 => ?_)
      · have hw := hw.1 c25
        refine lv_bipush (v := 23) hx hb dX9_key_199 (by decide) ?_
        exact r9_key_201 S hr hlocks hK hI  _ _ _ _ _ _ _ hw _ _ hM hS _ (lv_sub hl [1, 0] rfl)
      · have hw := hw.2 c25
        refine lv_iload hx hb dX9_key_192 (lv_at hl 0 rfl) ?_
        refine lv_iconst (v := 1) hx hb dX9_key_194 (by decide) ?_
        refine lv_iadd hx hb dX9_key_195 ?_
        refine lv_goto (tgt := 201) hx hb dX9_key_196 (by decide) ?_
        exact r9_key_201 S hr hlocks hK hI  _ _ _ _ _ _ _ hw _ _ hM hS _ (lv_sub hl [1, 0] rfl)
def w9_key_126 (post : Int32 → VV → AA → Prop)  (V : VV) (A : AA) (x1 x3 t0 : Int32) : Prop :=
  ((V 37) ≤ 0 → vp_in x3 69 ∧ w9_key_155 post V A x1 t0 (A 3 x3.toNatClampNeg)) ∧ (¬ (V 37) ≤ 0 → vp_in ((V 37) - 1) 60 ∧ w9_key_155 post V A x1 t0 (A 45 ((V 37) - 1).toNatClampNeg))
set_option maxHeartbeats 4000000 in
set_option maxRecDepth 100000 in
theorem r9_key_126 {p : Program} {l : Launch} {e : Env} {s : State} {m : MethodId} {args : Array Value} {below : List Frame} {meth : Method} {c : Code} {g : MG} (S : CallFix p m c cX9_key 7 s args lw_all RX9) (hr : meth.sig.returnType = (some .int)) (hlocks : meth.locks = false) (hK : KM g s) (hI : HI g) {post : Int32 → VV → AA → Prop}  : ∀ (V : VV) (A : AA) (x1 x3 t0 : Int32), w9_key_126 post  V A x1 x3 t0 → ∀ (H : Heap) (locs : List Loc), HM g V A H → va_S (HA g) s.heap H locs → ∀ (ls : Array Slot), lv_has ls 7 [(0, .ref (mh g)), (1, .int x1), (3, .int x3)] → W p l e rm9_key s m args below meth c H locs 0 0 (MQ below (MQi g post) args s 0 0 (HA g)) (F0 m 126 ls [.int t0]) := by
  have hx := S.1
  have hb := S.2.1
  have hown := S.2.2.2.1
  have hts := S.2.2.2.2
  intro V A x1 x3 t0 hw H locs hM hS ls hl
  unfold w9_key_126 at hw
  refine lv_istore (lv' := [(4, .int t0), (0, .ref (mh g)), (1, .int x1), (3, .int x3)]) hx hb dX9_key_126 hl (by decide) rfl (fun ls hl => ?_)
  refine lv_aload_n hx hb dX9_key_128 rfl (lv_at hl 1 rfl) ?_
  refine mo_geti S hK hM 37 (by decide) q816 dX9_key_129 rfl ?_
  refine lv_if_le (tgt := 149) hx hb dX9_key_132 (by decide) (fun c9 => ?_) (fun c9 => ?_)
  · have hw := hw.1 c9
    refine lv_aload_n hx hb dX9_key_149 rfl (lv_at hl 1 rfl) ?_
    refine mo_geta S hK hM 3 (by decide) q782 dX9_key_150 rfl ?_
    refine lv_iload_n hx hb dX9_key_153 rfl (lv_at hl 3 rfl) ?_
    have hin := hw.1
    have hw := hw.2
    refine mo_ald S hK hM 3 rfl hin dX9_key_154 ?_
    exact r9_key_155 S hr hlocks hK hI  _ _ _ _ _ hw _ _ hM hS _ (lv_sub hl [1, 2, 0] rfl)
  · have hw := hw.2 c9
    refine lv_aload_n hx hb dX9_key_135 rfl (lv_at hl 1 rfl) ?_
    refine mo_geta S hK hM 45 (by decide) q824 dX9_key_136 rfl ?_
    refine lv_aload_n hx hb dX9_key_139 rfl (lv_at hl 1 rfl) ?_
    refine mo_geti S hK hM 37 (by decide) q816 dX9_key_140 rfl ?_
    refine lv_iconst (v := 1) hx hb dX9_key_143 (by decide) ?_
    refine lv_isub hx hb dX9_key_144 ?_
    have hin := hw.1
    have hw := hw.2
    refine mo_ald S hK hM 45 rfl hin dX9_key_145 ?_
    refine lv_goto (tgt := 155) hx hb dX9_key_146 (by decide) ?_
    exact r9_key_155 S hr hlocks hK hI  _ _ _ _ _ hw _ _ hM hS _ (lv_sub hl [1, 2, 0] rfl)
def w9_key_34 (post : Int32 → VV → AA → Prop)  (V : VV) (A : AA) (x1 t0 : Int32) : Prop :=
  (t0 = 0 → post (-1) V A) ∧ (¬ t0 = 0 → ((V 21) = 1000 → post (-1) V A) ∧ (¬ (V 21) = 1000 → vp_in (V 21) 1000 ∧ ((((vu V 21 ((V 21) + 1)) 7) = 2 → post ((vu (vu V 21 ((V 21) + 1)) 39 (((vu V 21 ((V 21) + 1)) 39) + 1)) 21) (vu (vu V 21 ((V 21) + 1)) 39 (((vu V 21 ((V 21) + 1)) 39) + 1)) (au A 20 (V 21).toNatClampNeg x1)) ∧ (¬ ((vu V 21 ((V 21) + 1)) 7) = 2 → w9_nearNewest (fun (r7 : Int32) (V5 : VV) (A6 : AA) => ((V5 37) ≤ 0 → vp_in r7 69 ∧ w9_key_126 post V5 A6 x1 r7 (A6 2 r7.toNatClampNeg)) ∧ (¬ (V5 37) ≤ 0 → vp_in ((V5 37) - 1) 60 ∧ w9_key_126 post V5 A6 x1 r7 (A6 44 ((V5 37) - 1).toNatClampNeg))) (vu V 21 ((V 21) + 1)) (au A 20 (V 21).toNatClampNeg x1) ))))
set_option maxHeartbeats 4000000 in
set_option maxRecDepth 100000 in
theorem r9_key_34 {p : Program} {l : Launch} {e : Env} {s : State} {m : MethodId} {args : Array Value} {below : List Frame} {meth : Method} {c : Code} {g : MG} (S : CallFix p m c cX9_key 7 s args lw_all RX9) (hr : meth.sig.returnType = (some .int)) (hlocks : meth.locks = false) (hK : KM g s) (hI : HI g) {post : Int32 → VV → AA → Prop}  : ∀ (V : VV) (A : AA) (x1 t0 : Int32), w9_key_34 post  V A x1 t0 → ∀ (H : Heap) (locs : List Loc), HM g V A H → va_S (HA g) s.heap H locs → ∀ (ls : Array Slot), lv_has ls 7 [(0, .ref (mh g)), (1, .int x1)] → W p l e rm9_key s m args below meth c H locs 0 0 (MQ below (MQi g post) args s 0 0 (HA g)) (F0 m 34 ls [.int t0]) := by
  have hx := S.1
  have hb := S.2.1
  have hown := S.2.2.2.1
  have hts := S.2.2.2.2
  intro V A x1 t0 hw H locs hM hS ls hl
  unfold w9_key_34 at hw
  refine lv_istore_n (lv' := [(2, .int t0), (0, .ref (mh g)), (1, .int x1)]) hx hb dX9_key_34 rfl hl (by decide) rfl (fun ls hl => ?_)
  refine lv_iload_n hx hb dX9_key_35 rfl (lv_at hl 0 rfl) ?_
  refine lv_if_eq (tgt := 49) hx hb dX9_key_36 (by decide) (fun c2 => ?_) (fun c2 => ?_)
  · have hw := hw.1 c2
    refine lv_iconst (v := (-1)) hx hb dX9_key_49 (by decide) ?_
    exact mo_iret S hr hlocks hM hS hw dX9_key_50
  · have hw := hw.2 c2
    refine lv_aload_n hx hb dX9_key_39 rfl (lv_at hl 1 rfl) ?_
    refine mo_geti S hK hM 21 (by decide) q800 dX9_key_40 rfl ?_
    refine lv_sipush (v := 1000) hx hb dX9_key_43 (by decide) ?_
    refine lv_icmp_ne (tgt := 51) hx hb dX9_key_46 (by decide) (fun c3 => ?_) (fun c3 => ?_)
    · have hw := hw.2 c3
      refine lv_aload_n hx hb dX9_key_51 rfl (lv_at hl 1 rfl) ?_
      refine mo_geta S hK hM 20 (by decide) q799 dX9_key_52 rfl ?_
      refine lv_aload_n hx hb dX9_key_55 rfl (lv_at hl 1 rfl) ?_
      refine mo_geti S hK hM 21 (by decide) q800 dX9_key_56 rfl ?_
      refine lv_iload_n hx hb dX9_key_59 rfl (lv_at hl 2 rfl) ?_
      have hin := hw.1
      have hw := hw.2
      refine mo_ast S hK hI hM hS 20 rfl hin dX9_key_60 (fun H locs hM hS => ?_)
      refine lv_aload_n hx hb dX9_key_61 rfl (lv_at hl 1 rfl) ?_
      refine lv_dup hx hb dX9_key_62 rfl ?_
      refine mo_geti S hK hM 21 (by decide) q800 dX9_key_63 rfl ?_
      refine lv_iconst (v := 1) hx hb dX9_key_66 (by decide) ?_
      refine lv_iadd hx hb dX9_key_67 ?_
      refine mo_put S hK hI hM hS 21 (by decide) q800 dX9_key_68 rfl rfl ⟨rfl, rfl⟩ (fun H locs hM hS => ?_)
      refine lv_aload_n hx hb dX9_key_71 rfl (lv_at hl 1 rfl) ?_
      refine mo_geti S hK hM 7 (by decide) q786 dX9_key_72 rfl ?_
      refine lv_iconst (v := 2) hx hb dX9_key_75 (by decide) ?_
      refine lv_icmp_ne (tgt := 94) hx hb dX9_key_76 (by decide) (fun c4 => ?_) (fun c4 => ?_)
      · have hw := hw.2 c4
        refine lv_aload_n hx hb dX9_key_94 rfl (lv_at hl 1 rfl) ?_
        refine mo_calli (As := []) S hK hM hS (m9_nearNewest l g (vu V 21 ((V 21) + 1)) (au A 20 (V 21).toNatClampNeg x1)  _ hI hw) (cwV 0 hts (lw_V q1029 q1031 qs35 q64 q1032) rfl rfl rfl (by decide +kernel) ⟨Nat.le_of_ble_eq_true rfl, Nat.le_of_ble_eq_true rfl⟩) rfl hl.1 rfl (lv_room (Nat.le_of_ble_eq_true rfl)) dX9_key_95 ⟨Nat.zero_le _, Nat.zero_le _⟩ (fun r7 V5 A6 H locs hw hM hS => ?_)
        refine lv_istore_n (lv' := [(3, .int r7), (2, .int t0), (0, .ref (mh g)), (1, .int x1)]) hx hb dX9_key_98 rfl hl (by decide) rfl (fun ls hl => ?_)
        refine lv_aload_n hx hb dX9_key_99 rfl (lv_at hl 2 rfl) ?_
        refine mo_geti S hK hM 37 (by decide) q816 dX9_key_100 rfl ?_
        refine lv_if_le (tgt := 120) hx hb dX9_key_103 (by decide) (fun c8 => ?_) (fun c8 => ?_)
        · have hw := hw.1 c8
          refine lv_aload_n hx hb dX9_key_120 rfl (lv_at hl 2 rfl) ?_
          refine mo_geta S hK hM 2 (by decide) q781 dX9_key_121 rfl ?_
          refine lv_iload_n hx hb dX9_key_124 rfl (lv_at hl 0 rfl) ?_
          have hin := hw.1
          have hw := hw.2
          refine mo_ald S hK hM 2 rfl hin dX9_key_125 ?_
          exact r9_key_126 S hr hlocks hK hI  _ _ _ _ _ hw _ _ hM hS _ (lv_sub hl [2, 3, 0] rfl)
        · have hw := hw.2 c8
          refine lv_aload_n hx hb dX9_key_106 rfl (lv_at hl 2 rfl) ?_
          refine mo_geta S hK hM 44 (by decide) q823 dX9_key_107 rfl ?_
          refine lv_aload_n hx hb dX9_key_110 rfl (lv_at hl 2 rfl) ?_
          refine mo_geti S hK hM 37 (by decide) q816 dX9_key_111 rfl ?_
          refine lv_iconst (v := 1) hx hb dX9_key_114 (by decide) ?_
          refine lv_isub hx hb dX9_key_115 ?_
          have hin := hw.1
          have hw := hw.2
          refine mo_ald S hK hM 44 rfl hin dX9_key_116 ?_
          refine lv_goto (tgt := 126) hx hb dX9_key_117 (by decide) ?_
          exact r9_key_126 S hr hlocks hK hI  _ _ _ _ _ hw _ _ hM hS _ (lv_sub hl [2, 3, 0] rfl)
      · have hw := hw.1 c4
        refine lv_aload_n hx hb dX9_key_79 rfl (lv_at hl 1 rfl) ?_
        refine lv_dup hx hb dX9_key_80 rfl ?_
        refine mo_geti S hK hM 39 (by decide) q818 dX9_key_81 rfl ?_
        refine lv_iconst (v := 1) hx hb dX9_key_84 (by decide) ?_
        refine lv_iadd hx hb dX9_key_85 ?_
        refine mo_put S hK hI hM hS 39 (by decide) q818 dX9_key_86 rfl rfl ⟨rfl, rfl⟩ (fun H locs hM hS => ?_)
        refine lv_aload_n hx hb dX9_key_89 rfl (lv_at hl 1 rfl) ?_
        refine mo_geti S hK hM 21 (by decide) q800 dX9_key_90 rfl ?_
        exact mo_iret S hr hlocks hM hS hw dX9_key_93
    · have hw := hw.1 c3
      refine lv_iconst (v := (-1)) hx hb dX9_key_49 (by decide) ?_
      exact mo_iret S hr hlocks hM hS hw dX9_key_50
def w9_key_29 (post : Int32 → VV → AA → Prop)  (V : VV) (A : AA) (x1 : Int32) : Prop :=
  w9_key_34 post V A x1 1
set_option maxHeartbeats 4000000 in
set_option maxRecDepth 100000 in
theorem r9_key_29 {p : Program} {l : Launch} {e : Env} {s : State} {m : MethodId} {args : Array Value} {below : List Frame} {meth : Method} {c : Code} {g : MG} (S : CallFix p m c cX9_key 7 s args lw_all RX9) (hr : meth.sig.returnType = (some .int)) (hlocks : meth.locks = false) (hK : KM g s) (hI : HI g) {post : Int32 → VV → AA → Prop}  : ∀ (V : VV) (A : AA) (x1 : Int32), w9_key_29 post  V A x1 → ∀ (H : Heap) (locs : List Loc), HM g V A H → va_S (HA g) s.heap H locs → ∀ (ls : Array Slot), lv_has ls 7 [(0, .ref (mh g)), (1, .int x1)] → W p l e rm9_key s m args below meth c H locs 0 0 (MQ below (MQi g post) args s 0 0 (HA g)) (F0 m 29 ls []) := by
  have hx := S.1
  have hb := S.2.1
  have hown := S.2.2.2.1
  have hts := S.2.2.2.2
  intro V A x1 hw H locs hM hS ls hl
  unfold w9_key_29 at hw
  refine lv_iconst (v := 1) hx hb dX9_key_29 (by decide) ?_
  refine lv_goto (tgt := 34) hx hb dX9_key_30 (by decide) ?_
  exact r9_key_34 S hr hlocks hK hI  _ _ _ _ hw _ _ hM hS _ (lv_sub hl [0, 1] rfl)
def w9_key_22 (post : Int32 → VV → AA → Prop)  (V : VV) (A : AA) (x1 : Int32) : Prop :=
  w9_isLetter (fun (r34 : Int32) (V32 : VV) (A33 : AA) => (r34 = 0 → w9_key_34 post V32 A33 x1 0) ∧ (¬ r34 = 0 → w9_key_29 post V32 A33 x1)) V A x1
set_option maxHeartbeats 4000000 in
set_option maxRecDepth 100000 in
theorem r9_key_22 {p : Program} {l : Launch} {e : Env} {s : State} {m : MethodId} {args : Array Value} {below : List Frame} {meth : Method} {c : Code} {g : MG} (S : CallFix p m c cX9_key 7 s args lw_all RX9) (hr : meth.sig.returnType = (some .int)) (hlocks : meth.locks = false) (hK : KM g s) (hI : HI g) {post : Int32 → VV → AA → Prop}  : ∀ (V : VV) (A : AA) (x1 : Int32), w9_key_22 post  V A x1 → ∀ (H : Heap) (locs : List Loc), HM g V A H → va_S (HA g) s.heap H locs → ∀ (ls : Array Slot), lv_has ls 7 [(0, .ref (mh g)), (1, .int x1)] → W p l e rm9_key s m args below meth c H locs 0 0 (MQ below (MQi g post) args s 0 0 (HA g)) (F0 m 22 ls []) := by
  have hx := S.1
  have hb := S.2.1
  have hown := S.2.2.2.1
  have hts := S.2.2.2.2
  intro V A x1 hw H locs hM hS ls hl
  unfold w9_key_22 at hw
  refine lv_iload_n hx hb dX9_key_22 rfl (lv_at hl 1 rfl) ?_
  refine mo_scalli (As := [.int x1]) S hK hM hS (m9_isLetter l g V A x1 _ hI hw) (va_cwS 1 hts (lw_S q930 q931 q64 q932) rfl rfl rfl (by decide +kernel) ⟨Nat.le_of_ble_eq_true rfl, Nat.le_of_ble_eq_true rfl⟩) rfl hl.1 rfl (lv_room (Nat.le_of_ble_eq_true rfl)) dX9_key_23 ⟨Nat.zero_le _, Nat.zero_le _⟩ (fun r34 V32 A33 H locs hw hM hS => ?_)
  refine lv_if_eq (tgt := 33) hx hb dX9_key_26 (by decide) (fun c35 => ?_) (fun c35 => ?_)
  · have hw := hw.1 c35
    refine lv_iconst (v := 0) hx hb dX9_key_33 (by decide) ?_
    exact r9_key_34 S hr hlocks hK hI  _ _ _ _ hw _ _ hM hS _ (lv_sub hl [0, 1] rfl)
  · have hw := hw.2 c35
    exact r9_key_29 S hr hlocks hK hI  _ _ _ hw _ _ hM hS _ (lv_sub hl [0, 1] rfl)
def w9_key (post : Int32 → VV → AA → Prop) (V : VV) (A : AA) (x1 : Int32) : Prop :=
  (x1 = 13 → w9_key_29 post V A x1) ∧ (¬ x1 = 13 → (x1 = 8 → w9_key_29 post V A x1) ∧ (¬ x1 = 8 → (x1 < 1 → w9_key_22 post V A x1) ∧ (¬ x1 < 1 → (x1 ≤ 4 → w9_key_29 post V A x1) ∧ (¬ x1 ≤ 4 → w9_key_22 post V A x1))))
set_option maxHeartbeats 4000000 in
set_option maxRecDepth 100000 in
theorem m9_key (l : Launch) (g : MG) (V : VV) (A : AA) (x1 : Int32) (post : Int32 → VV → AA → Prop) (hI : HI g) (hw : w9_key post V A x1) : Met l yX9_key (ws_ yX9_key cX9_key 7 (some .int)) rm9_key (MPc g V A [.ref (mh g), .int x1]) (MQi g post) 0 0 (HA g) := by
  refine Met.ofW (cc := cX9_key) (maxL := 7) (ret := (some .int)) (by decide) rfl ?_
  intro p e s m args below meth c s₁ B hml hv
  obtain ⟨rfl, hK, hM⟩ := hv
  have hx := B.exec
  have hb := B.bytes
  have hr : meth.sig.returnType = (some .int) := B.returns
  have hts := atoms_spec (ws := ws_ yX9_key cX9_key 7 (some .int)) B.pre
  have hts : ∀ w ∈ lw_all, w.before _ s = true := fun w h => hts w (List.mem_cons_of_mem _ h)
  have hown : s.vm.findClass RX9 = some m.cls := findClass_of_methodNamed B.named
  have hlocks : meth.locks = false := B.notSynchronized
  have S : CallFix p m c cX9_key 7 s _ lw_all RX9 := ⟨hx, hb, hml, hown, hts⟩
  have hS : va_S (HA g) s.heap s.heap [] := va_S.rf
  have hl := lv_entry ([.ref (mh g), .int x1]) (n := 7) (Nat.le_of_ble_eq_true rfl)
  rw [lg_entry_eq]
  generalize (lg_sl ([.ref (mh g), .int x1]) ++ List.replicate (7 - (lg_sl ([.ref (mh g), .int x1])).length) Slot.unset).toArray = ls at hl ⊢
  have hl : lv_has ls 7 [(0, .ref (mh g)), (1, .int x1)] := hl
  unfold w9_key at hw
  refine lv_iload_n hx hb dX9_key_0 rfl (lv_at hl 1 rfl) ?_
  refine lv_bipush (v := 13) hx hb dX9_key_1 (by decide) ?_
  refine lv_icmp_eq (tgt := 29) hx hb dX9_key_3 (by decide) (fun c1 => ?_) (fun c1 => ?_)
  · have hw := hw.1 c1
    exact r9_key_29 S hr hlocks hK hI  _ _ _ hw _ _ hM hS _ (lv_sub hl [0, 1] rfl)
  · have hw := hw.2 c1
    refine lv_iload_n hx hb dX9_key_6 rfl (lv_at hl 1 rfl) ?_
    refine lv_bipush (v := 8) hx hb dX9_key_7 (by decide) ?_
    refine lv_icmp_eq (tgt := 29) hx hb dX9_key_9 (by decide) (fun c30 => ?_) (fun c30 => ?_)
    · have hw := hw.1 c30
      exact r9_key_29 S hr hlocks hK hI  _ _ _ hw _ _ hM hS _ (lv_sub hl [0, 1] rfl)
    · have hw := hw.2 c30
      refine lv_iload_n hx hb dX9_key_12 rfl (lv_at hl 1 rfl) ?_
      refine lv_iconst (v := 1) hx hb dX9_key_13 (by decide) ?_
      refine lv_icmp_lt (tgt := 22) hx hb dX9_key_14 (by decide) (fun c31 => ?_) (fun c31 => ?_)
      · have hw := hw.1 c31
        exact r9_key_22 S hr hlocks hK hI  _ _ _ hw _ _ hM hS _ (lv_sub hl [0, 1] rfl)
      · have hw := hw.2 c31
        refine lv_iload_n hx hb dX9_key_17 rfl (lv_at hl 1 rfl) ?_
        refine lv_iconst (v := 4) hx hb dX9_key_18 (by decide) ?_
        refine lv_icmp_le (tgt := 29) hx hb dX9_key_19 (by decide) (fun c36 => ?_) (fun c36 => ?_)
        · have hw := hw.1 c36
          exact r9_key_29 S hr hlocks hK hI  _ _ _ hw _ _ hM hS _ (lv_sub hl [0, 1] rfl)
        · have hw := hw.2 c36
          exact r9_key_22 S hr hlocks hK hI  _ _ _ hw _ _ hM hS _ (lv_sub hl [0, 1] rfl)
/-! FarTypewriterModel.screenOf(I)I -/
abbrev rm9_screenOf : Room := { frames := 1, cells := 0, slots := 0, locals := 23 }
def w9_screenOf_145 (post : Int32 → VV → AA → Prop) (kb : VV → AA → Int32 → Int32 → Prop) (V : VV) (A : AA) (x1 x2 : Int32) : Prop :=
  kb V A x1 (x2 + 1)
set_option maxHeartbeats 4000000 in
set_option maxRecDepth 100000 in
theorem r9_screenOf_145 {p : Program} {l : Launch} {e : Env} {s : State} {m : MethodId} {args : Array Value} {below : List Frame} {meth : Method} {c : Code} {g : MG} (S : CallFix p m c cX9_screenOf 3 s args lw_all RX9) (hr : meth.sig.returnType = (some .int)) (hlocks : meth.locks = false) (hK : KM g s) (hI : HI g) {post : Int32 → VV → AA → Prop} {kb : VV → AA → Int32 → Int32 → Prop} (hkb : ∀ (V : VV) (A : AA) (x1 x2 : Int32), kb V A x1 x2 → ∀ (H : Heap) (locs : List Loc), HM g V A H → va_S (HA g) s.heap H locs → ∀ (ls : Array Slot), lv_has ls 3 [(0, .ref (mh g)), (1, .int x1), (2, .int x2)] → W p l e rm9_screenOf s m args below meth c H locs 0 0 (MQ below (MQi g post) args s 0 0 (HA g)) (F0 m 40 ls [])) : ∀ (V : VV) (A : AA) (x1 x2 : Int32), w9_screenOf_145 post kb V A x1 x2 → ∀ (H : Heap) (locs : List Loc), HM g V A H → va_S (HA g) s.heap H locs → ∀ (ls : Array Slot), lv_has ls 3 [(0, .ref (mh g)), (1, .int x1), (2, .int x2)] → W p l e rm9_screenOf s m args below meth c H locs 0 0 (MQ below (MQi g post) args s 0 0 (HA g)) (F0 m 145 ls []) := by
  have hx := S.1
  have hb := S.2.1
  have hown := S.2.2.2.1
  have hts := S.2.2.2.2
  intro V A x1 x2 hw H locs hM hS ls hl
  unfold w9_screenOf_145 at hw
  refine lv_iinc (v := x2 + 1) (lv' := [(2, .int (x2 + 1)), (0, .ref (mh g)), (1, .int x1)]) hx hb dX9_screenOf_145 hl (k := 2) rfl rfl (by decide) rfl (fun ls hl => ?_)
  refine lv_goto (tgt := 40) hx hb dX9_screenOf_148 (by decide) ?_
  exact hkb _ _ _ _ hw _ _ hM hS _ (lv_sub hl [1, 2, 0] rfl)
def w9_screenOf_69 (post : Int32 → VV → AA → Prop) (kb : VV → AA → Int32 → Int32 → Prop) (V : VV) (A : AA) (x1 x2 : Int32) : Prop :=
  vp_in x2 60 ∧ (vp_in 68 69 ∧ (vp_in x2 60 ∧ (vp_in 68 69 ∧ (vp_in x2 60 ∧ ((((au (au A 2 (68 : Int32).toNatClampNeg (A 44 x2.toNatClampNeg)) 3 (68 : Int32).toNatClampNeg ((au A 2 (68 : Int32).toNatClampNeg (A 44 x2.toNatClampNeg)) 45 x2.toNatClampNeg)) 42 x2.toNatClampNeg) = (-1) → w9_screenOf_145 post kb V (au (au A 2 (68 : Int32).toNatClampNeg (A 44 x2.toNatClampNeg)) 3 (68 : Int32).toNatClampNeg ((au A 2 (68 : Int32).toNatClampNeg (A 44 x2.toNatClampNeg)) 45 x2.toNatClampNeg)) x1 x2) ∧ (¬ ((au (au A 2 (68 : Int32).toNatClampNeg (A 44 x2.toNatClampNeg)) 3 (68 : Int32).toNatClampNeg ((au A 2 (68 : Int32).toNatClampNeg (A 44 x2.toNatClampNeg)) 45 x2.toNatClampNeg)) 42 x2.toNatClampNeg) = (-1) → vp_in x2 60 ∧ (vp_in x2 60 ∧ (vp_in (13056 + ((au (au A 2 (68 : Int32).toNatClampNeg (A 44 x2.toNatClampNeg)) 3 (68 : Int32).toNatClampNeg ((au A 2 (68 : Int32).toNatClampNeg (A 44 x2.toNatClampNeg)) 45 x2.toNatClampNeg)) 42 x2.toNatClampNeg)) 13248 ∧ (vp_in x2 60 ∧ (vp_in (13056 + ((au (au (au A 2 (68 : Int32).toNatClampNeg (A 44 x2.toNatClampNeg)) 3 (68 : Int32).toNatClampNeg ((au A 2 (68 : Int32).toNatClampNeg (A 44 x2.toNatClampNeg)) 45 x2.toNatClampNeg)) 0 (13056 + ((au (au A 2 (68 : Int32).toNatClampNeg (A 44 x2.toNatClampNeg)) 3 (68 : Int32).toNatClampNeg ((au A 2 (68 : Int32).toNatClampNeg (A 44 x2.toNatClampNeg)) 45 x2.toNatClampNeg)) 42 x2.toNatClampNeg)).toNatClampNeg ((au (au A 2 (68 : Int32).toNatClampNeg (A 44 x2.toNatClampNeg)) 3 (68 : Int32).toNatClampNeg ((au A 2 (68 : Int32).toNatClampNeg (A 44 x2.toNatClampNeg)) 45 x2.toNatClampNeg)) 43 x2.toNatClampNeg)) 42 x2.toNatClampNeg)) 13248 ∧ w9_screenOf_145 post kb V (au (au (au (au A 2 (68 : Int32).toNatClampNeg (A 44 x2.toNatClampNeg)) 3 (68 : Int32).toNatClampNeg ((au A 2 (68 : Int32).toNatClampNeg (A 44 x2.toNatClampNeg)) 45 x2.toNatClampNeg)) 0 (13056 + ((au (au A 2 (68 : Int32).toNatClampNeg (A 44 x2.toNatClampNeg)) 3 (68 : Int32).toNatClampNeg ((au A 2 (68 : Int32).toNatClampNeg (A 44 x2.toNatClampNeg)) 45 x2.toNatClampNeg)) 42 x2.toNatClampNeg)).toNatClampNeg ((au (au A 2 (68 : Int32).toNatClampNeg (A 44 x2.toNatClampNeg)) 3 (68 : Int32).toNatClampNeg ((au A 2 (68 : Int32).toNatClampNeg (A 44 x2.toNatClampNeg)) 45 x2.toNatClampNeg)) 43 x2.toNatClampNeg)) 1 (13056 + ((au (au (au A 2 (68 : Int32).toNatClampNeg (A 44 x2.toNatClampNeg)) 3 (68 : Int32).toNatClampNeg ((au A 2 (68 : Int32).toNatClampNeg (A 44 x2.toNatClampNeg)) 45 x2.toNatClampNeg)) 0 (13056 + ((au (au A 2 (68 : Int32).toNatClampNeg (A 44 x2.toNatClampNeg)) 3 (68 : Int32).toNatClampNeg ((au A 2 (68 : Int32).toNatClampNeg (A 44 x2.toNatClampNeg)) 45 x2.toNatClampNeg)) 42 x2.toNatClampNeg)).toNatClampNeg ((au (au A 2 (68 : Int32).toNatClampNeg (A 44 x2.toNatClampNeg)) 3 (68 : Int32).toNatClampNeg ((au A 2 (68 : Int32).toNatClampNeg (A 44 x2.toNatClampNeg)) 45 x2.toNatClampNeg)) 43 x2.toNatClampNeg)) 42 x2.toNatClampNeg)).toNatClampNeg 3) x1 x2))))))))))
set_option maxHeartbeats 4000000 in
set_option maxRecDepth 100000 in
theorem r9_screenOf_69 {p : Program} {l : Launch} {e : Env} {s : State} {m : MethodId} {args : Array Value} {below : List Frame} {meth : Method} {c : Code} {g : MG} (S : CallFix p m c cX9_screenOf 3 s args lw_all RX9) (hr : meth.sig.returnType = (some .int)) (hlocks : meth.locks = false) (hK : KM g s) (hI : HI g) {post : Int32 → VV → AA → Prop} {kb : VV → AA → Int32 → Int32 → Prop} (hkb : ∀ (V : VV) (A : AA) (x1 x2 : Int32), kb V A x1 x2 → ∀ (H : Heap) (locs : List Loc), HM g V A H → va_S (HA g) s.heap H locs → ∀ (ls : Array Slot), lv_has ls 3 [(0, .ref (mh g)), (1, .int x1), (2, .int x2)] → W p l e rm9_screenOf s m args below meth c H locs 0 0 (MQ below (MQi g post) args s 0 0 (HA g)) (F0 m 40 ls [])) : ∀ (V : VV) (A : AA) (x1 x2 : Int32), w9_screenOf_69 post kb V A x1 x2 → ∀ (H : Heap) (locs : List Loc), HM g V A H → va_S (HA g) s.heap H locs → ∀ (ls : Array Slot), lv_has ls 3 [(0, .ref (mh g)), (1, .int x1), (2, .int x2)] → W p l e rm9_screenOf s m args below meth c H locs 0 0 (MQ below (MQi g post) args s 0 0 (HA g)) (F0 m 69 ls []) := by
  have hx := S.1
  have hb := S.2.1
  have hown := S.2.2.2.1
  have hts := S.2.2.2.2
  intro V A x1 x2 hw H locs hM hS ls hl
  unfold w9_screenOf_69 at hw
  refine lv_aload_n hx hb dX9_screenOf_69 rfl (lv_at hl 0 rfl) ?_
  refine mo_geta S hK hM 2 (by decide) q781 dX9_screenOf_70 rfl ?_
  refine lv_bipush (v := 68) hx hb dX9_screenOf_73 (by decide) ?_
  refine lv_aload_n hx hb dX9_screenOf_75 rfl (lv_at hl 0 rfl) ?_
  refine mo_geta S hK hM 44 (by decide) q823 dX9_screenOf_76 rfl ?_
  refine lv_iload_n hx hb dX9_screenOf_79 rfl (lv_at hl 2 rfl) ?_
  have hin := hw.1
  have hw := hw.2
  refine mo_ald S hK hM 44 rfl hin dX9_screenOf_80 ?_
  have hin := hw.1
  have hw := hw.2
  refine mo_ast S hK hI hM hS 2 rfl hin dX9_screenOf_81 (fun H locs hM hS => ?_)
  refine lv_aload_n hx hb dX9_screenOf_82 rfl (lv_at hl 0 rfl) ?_
  refine mo_geta S hK hM 3 (by decide) q782 dX9_screenOf_83 rfl ?_
  refine lv_bipush (v := 68) hx hb dX9_screenOf_86 (by decide) ?_
  refine lv_aload_n hx hb dX9_screenOf_88 rfl (lv_at hl 0 rfl) ?_
  refine mo_geta S hK hM 45 (by decide) q824 dX9_screenOf_89 rfl ?_
  refine lv_iload_n hx hb dX9_screenOf_92 rfl (lv_at hl 2 rfl) ?_
  have hin := hw.1
  have hw := hw.2
  refine mo_ald S hK hM 45 rfl hin dX9_screenOf_93 ?_
  have hin := hw.1
  have hw := hw.2
  refine mo_ast S hK hI hM hS 3 rfl hin dX9_screenOf_94 (fun H locs hM hS => ?_)
  refine lv_aload_n hx hb dX9_screenOf_95 rfl (lv_at hl 0 rfl) ?_
  refine mo_geta S hK hM 42 (by decide) q821 dX9_screenOf_96 rfl ?_
  refine lv_iload_n hx hb dX9_screenOf_99 rfl (lv_at hl 2 rfl) ?_
  have hin := hw.1
  have hw := hw.2
  refine mo_ald S hK hM 42 rfl hin dX9_screenOf_100 ?_
  refine lv_iconst (v := (-1)) hx hb dX9_screenOf_101 (by decide) ?_
  refine lv_icmp_ne (tgt := 108) hx hb dX9_screenOf_102 (by decide) (fun c12 => ?_) (fun c12 => ?_)
  · have hw := hw.2 c12
    refine lv_aload_n hx hb dX9_screenOf_108 rfl (lv_at hl 0 rfl) ?_
    refine mo_geta S hK hM 0 (by decide) q779 dX9_screenOf_109 rfl ?_
    refine lv_sipush (v := 13056) hx hb dX9_screenOf_112 (by decide) ?_
    refine lv_aload_n hx hb dX9_screenOf_115 rfl (lv_at hl 0 rfl) ?_
    refine mo_geta S hK hM 42 (by decide) q821 dX9_screenOf_116 rfl ?_
    refine lv_iload_n hx hb dX9_screenOf_119 rfl (lv_at hl 2 rfl) ?_
    have hin := hw.1
    have hw := hw.2
    refine mo_ald S hK hM 42 rfl hin dX9_screenOf_120 ?_
    refine lv_iadd hx hb dX9_screenOf_121 ?_
    refine lv_aload_n hx hb dX9_screenOf_122 rfl (lv_at hl 0 rfl) ?_
    refine mo_geta S hK hM 43 (by decide) q822 dX9_screenOf_123 rfl ?_
    refine lv_iload_n hx hb dX9_screenOf_126 rfl (lv_at hl 2 rfl) ?_
    have hin := hw.1
    have hw := hw.2
    refine mo_ald S hK hM 43 rfl hin dX9_screenOf_127 ?_
    have hin := hw.1
    have hw := hw.2
    refine mo_ast S hK hI hM hS 0 rfl hin dX9_screenOf_128 (fun H locs hM hS => ?_)
    refine lv_aload_n hx hb dX9_screenOf_129 rfl (lv_at hl 0 rfl) ?_
    refine mo_geta S hK hM 1 (by decide) q780 dX9_screenOf_130 rfl ?_
    refine lv_sipush (v := 13056) hx hb dX9_screenOf_133 (by decide) ?_
    refine lv_aload_n hx hb dX9_screenOf_136 rfl (lv_at hl 0 rfl) ?_
    refine mo_geta S hK hM 42 (by decide) q821 dX9_screenOf_137 rfl ?_
    refine lv_iload_n hx hb dX9_screenOf_140 rfl (lv_at hl 2 rfl) ?_
    have hin := hw.1
    have hw := hw.2
    refine mo_ald S hK hM 42 rfl hin dX9_screenOf_141 ?_
    refine lv_iadd hx hb dX9_screenOf_142 ?_
    refine lv_iconst (v := 3) hx hb dX9_screenOf_143 (by decide) ?_
    have hin := hw.1
    have hw := hw.2
    refine mo_ast S hK hI hM hS 1 rfl hin dX9_screenOf_144 (fun H locs hM hS => ?_)
    exact r9_screenOf_145 S hr hlocks hK hI hkb _ _ _ _ hw _ _ hM hS _ (lv_sub hl [0, 1, 2] rfl)
  · have hw := hw.1 c12
    refine lv_goto (tgt := 145) hx hb dX9_screenOf_105 (by decide) ?_
    exact r9_screenOf_145 S hr hlocks hK hI hkb _ _ _ _ hw _ _ hM hS _ (lv_sub hl [0, 1, 2] rfl)
def b9_screenOf_40 (post : Int32 → VV → AA → Prop)  (kb : VV → AA → Int32 → Int32 → Prop) (V : VV) (A : AA) (x1 x2 : Int32) : Prop :=
  ((V 37) ≤ x2 → post 68 V A) ∧ (¬ (V 37) ≤ x2 → (x1 = 2 → vp_in x2 60 ∧ (((A 41 x2.toNatClampNeg) ≤ (V 38) → w9_screenOf_69 post kb V A x1 x2) ∧ (¬ (A 41 x2.toNatClampNeg) ≤ (V 38) → w9_screenOf_145 post kb V A x1 x2))) ∧ (¬ x1 = 2 → w9_screenOf_69 post kb V A x1 x2))
def w9_screenOf_40 (post : Int32 → VV → AA → Prop)  : Nat → VV → AA → Int32 → Int32 → Prop
  | 0 => fun _ _ _ _ => False
  | n + 1 => b9_screenOf_40 post  (w9_screenOf_40 post  n)
set_option maxHeartbeats 4000000 in
set_option maxRecDepth 100000 in
theorem r9_screenOf_40 {p : Program} {l : Launch} {e : Env} {s : State} {m : MethodId} {args : Array Value} {below : List Frame} {meth : Method} {c : Code} {g : MG} (S : CallFix p m c cX9_screenOf 3 s args lw_all RX9) (hr : meth.sig.returnType = (some .int)) (hlocks : meth.locks = false) (hK : KM g s) (hI : HI g) {post : Int32 → VV → AA → Prop}  : ∀ n : Nat, ∀ (V : VV) (A : AA) (x1 x2 : Int32), w9_screenOf_40 post  n V A x1 x2 → ∀ (H : Heap) (locs : List Loc), HM g V A H → va_S (HA g) s.heap H locs → ∀ (ls : Array Slot), lv_has ls 3 [(0, .ref (mh g)), (1, .int x1), (2, .int x2)] → W p l e rm9_screenOf s m args below meth c H locs 0 0 (MQ below (MQi g post) args s 0 0 (HA g)) (F0 m 40 ls []) := by
  have hx := S.1
  have hb := S.2.1
  have hown := S.2.2.2.1
  have hts := S.2.2.2.2
  intro n
  induction n with
  | zero =>
    intro V A x1 x2 hw
    exact hw.elim
  | succ n hkb =>
    intro V A x1 x2 hw H locs hM hS ls hl
    unfold w9_screenOf_40 b9_screenOf_40 at hw
    refine lv_iload_n hx hb dX9_screenOf_40 rfl (lv_at hl 2 rfl) ?_
    refine lv_aload_n hx hb dX9_screenOf_41 rfl (lv_at hl 0 rfl) ?_
    refine mo_geti S hK hM 37 (by decide) q816 dX9_screenOf_42 rfl ?_
    refine lv_icmp_ge (tgt := 151) hx hb dX9_screenOf_45 (by decide) (fun c10 => ?_) (fun c10 => ?_)
    · have hw := hw.1 c10
      refine lv_bipush (v := 68) hx hb dX9_screenOf_151 (by decide) ?_
      exact mo_iret S hr hlocks hM hS hw dX9_screenOf_153
    · have hw := hw.2 c10
      refine lv_iload_n hx hb dX9_screenOf_48 rfl (lv_at hl 1 rfl) ?_
      refine lv_iconst (v := 2) hx hb dX9_screenOf_49 (by decide) ?_
      refine lv_icmp_ne (tgt := 69) hx hb dX9_screenOf_50 (by decide) (fun c11 => ?_) (fun c11 => ?_)
      · have hw := hw.2 c11
        exact r9_screenOf_69 S hr hlocks hK hI hkb _ _ _ _ hw _ _ hM hS _ (lv_sub hl [0, 1, 2] rfl)
      · have hw := hw.1 c11
        refine lv_aload_n hx hb dX9_screenOf_53 rfl (lv_at hl 0 rfl) ?_
        refine mo_geta S hK hM 41 (by decide) q820 dX9_screenOf_54 rfl ?_
        refine lv_iload_n hx hb dX9_screenOf_57 rfl (lv_at hl 2 rfl) ?_
        have hin := hw.1
        have hw := hw.2
        refine mo_ald S hK hM 41 rfl hin dX9_screenOf_58 ?_
        refine lv_aload_n hx hb dX9_screenOf_59 rfl (lv_at hl 0 rfl) ?_
        refine mo_geti S hK hM 38 (by decide) q817 dX9_screenOf_60 rfl ?_
        refine lv_icmp_le (tgt := 69) hx hb dX9_screenOf_63 (by decide) (fun c13 => ?_) (fun c13 => ?_)
        · have hw := hw.1 c13
          exact r9_screenOf_69 S hr hlocks hK hI hkb _ _ _ _ hw _ _ hM hS _ (lv_sub hl [0, 1, 2] rfl)
        · have hw := hw.2 c13
          refine lv_goto (tgt := 145) hx hb dX9_screenOf_66 (by decide) ?_
          exact r9_screenOf_145 S hr hlocks hK hI hkb _ _ _ _ hw _ _ hM hS _ (lv_sub hl [0, 1, 2] rfl)
def w9_screenOf_28 (post : Int32 → VV → AA → Prop)  (V : VV) (A : AA) (x1 : Int32) : Prop :=
  w9_nearNewest (fun (r6 : Int32) (V4 : VV) (A5 : AA) => w9_copies (fun (V7 : VV) (A8 : AA) => ∃ n, w9_screenOf_40 post  n V7 A8 x1 0) V4 A5 r6 68) V A 
set_option maxHeartbeats 4000000 in
set_option maxRecDepth 100000 in
theorem r9_screenOf_28 {p : Program} {l : Launch} {e : Env} {s : State} {m : MethodId} {args : Array Value} {below : List Frame} {meth : Method} {c : Code} {g : MG} (S : CallFix p m c cX9_screenOf 3 s args lw_all RX9) (hr : meth.sig.returnType = (some .int)) (hlocks : meth.locks = false) (hK : KM g s) (hI : HI g) {post : Int32 → VV → AA → Prop}  : ∀ (V : VV) (A : AA) (x1 : Int32), w9_screenOf_28 post  V A x1 → ∀ (H : Heap) (locs : List Loc), HM g V A H → va_S (HA g) s.heap H locs → ∀ (ls : Array Slot), lv_has ls 3 [(0, .ref (mh g)), (1, .int x1)] → W p l e rm9_screenOf s m args below meth c H locs 0 0 (MQ below (MQi g post) args s 0 0 (HA g)) (F0 m 28 ls []) := by
  have hx := S.1
  have hb := S.2.1
  have hown := S.2.2.2.1
  have hts := S.2.2.2.2
  intro V A x1 hw H locs hM hS ls hl
  unfold w9_screenOf_28 at hw
  refine lv_aload_n hx hb dX9_screenOf_28 rfl (lv_at hl 0 rfl) ?_
  refine lv_aload_n hx hb dX9_screenOf_29 rfl (lv_at hl 0 rfl) ?_
  refine mo_calli (As := []) S hK hM hS (m9_nearNewest l g V A  _ hI hw) (cwV 0 hts (lw_V q1029 q1031 qs35 q64 q1032) rfl rfl rfl (by decide +kernel) ⟨Nat.le_of_ble_eq_true rfl, Nat.le_of_ble_eq_true rfl⟩) rfl hl.1 rfl (lv_room (Nat.le_of_ble_eq_true rfl)) dX9_screenOf_30 ⟨Nat.zero_le _, Nat.zero_le _⟩ (fun r6 V4 A5 H locs hw hM hS => ?_)
  refine lv_bipush (v := 68) hx hb dX9_screenOf_33 (by decide) ?_
  refine mo_callv (As := [.int r6, .int 68]) S hK hM hS (m9_copies l g V4 A5 r6 68 _ hI hw) (cwV 2 hts (lw_V q984 q986 qs24 q64 q987) rfl rfl rfl (by decide +kernel) ⟨Nat.le_of_ble_eq_true rfl, Nat.le_of_ble_eq_true rfl⟩) rfl hl.1 rfl (lv_room (Nat.le_of_ble_eq_true rfl)) dX9_screenOf_35 ⟨Nat.zero_le _, Nat.zero_le _⟩ (fun V7 A8 H locs hw hM hS => ?_)
  refine lv_iconst (v := 0) hx hb dX9_screenOf_38 (by decide) ?_
  refine lv_istore_n (lv' := [(2, .int 0), (0, .ref (mh g)), (1, .int x1)]) hx hb dX9_screenOf_39 rfl hl (by decide) rfl (fun ls hl => ?_)
  obtain ⟨n, hw⟩ := hw
  refine r9_screenOf_40 S hr hlocks hK hI  n _ _ _ _ hw _ _ hM hS _ (lv_sub hl [1, 2, 0] rfl)
def w9_screenOf (post : Int32 → VV → AA → Prop) (V : VV) (A : AA) (x1 : Int32) : Prop :=
  (x1 = 0 → w9_nearNewest (fun (r17 : Int32) (V15 : VV) (A16 : AA) => post r17 V15 A16) V A ) ∧ (¬ x1 = 0 → (x1 = 1 → post 0 V A) ∧ (¬ x1 = 1 → (x1 = 2 → w9_screenOf_28 post V A x1) ∧ (¬ x1 = 2 → (x1 = 3 → w9_screenOf_28 post V A x1) ∧ (¬ x1 = 3 → post (-1) V A))))
set_option maxHeartbeats 4000000 in
set_option maxRecDepth 100000 in
theorem m9_screenOf (l : Launch) (g : MG) (V : VV) (A : AA) (x1 : Int32) (post : Int32 → VV → AA → Prop) (hI : HI g) (hw : w9_screenOf post V A x1) : Met l yX9_screenOf (ws_ yX9_screenOf cX9_screenOf 3 (some .int)) rm9_screenOf (MPc g V A [.ref (mh g), .int x1]) (MQi g post) 0 0 (HA g) := by
  refine Met.ofW (cc := cX9_screenOf) (maxL := 3) (ret := (some .int)) (by decide) rfl ?_
  intro p e s m args below meth c s₁ B hml hv
  obtain ⟨rfl, hK, hM⟩ := hv
  have hx := B.exec
  have hb := B.bytes
  have hr : meth.sig.returnType = (some .int) := B.returns
  have hts := atoms_spec (ws := ws_ yX9_screenOf cX9_screenOf 3 (some .int)) B.pre
  have hts : ∀ w ∈ lw_all, w.before _ s = true := fun w h => hts w (List.mem_cons_of_mem _ h)
  have hown : s.vm.findClass RX9 = some m.cls := findClass_of_methodNamed B.named
  have hlocks : meth.locks = false := B.notSynchronized
  have S : CallFix p m c cX9_screenOf 3 s _ lw_all RX9 := ⟨hx, hb, hml, hown, hts⟩
  have hS : va_S (HA g) s.heap s.heap [] := va_S.rf
  have hl := lv_entry ([.ref (mh g), .int x1]) (n := 3) (Nat.le_of_ble_eq_true rfl)
  rw [lg_entry_eq]
  generalize (lg_sl ([.ref (mh g), .int x1]) ++ List.replicate (3 - (lg_sl ([.ref (mh g), .int x1])).length) Slot.unset).toArray = ls at hl ⊢
  have hl : lv_has ls 3 [(0, .ref (mh g)), (1, .int x1)] := hl
  unfold w9_screenOf at hw
  refine lv_iload_n hx hb dX9_screenOf_0 rfl (lv_at hl 1 rfl) ?_
  refine lv_if_ne (tgt := 9) hx hb dX9_screenOf_1 (by decide) (fun c1 => ?_) (fun c1 => ?_)
  · have hw := hw.2 c1
    refine lv_iload_n hx hb dX9_screenOf_9 rfl (lv_at hl 1 rfl) ?_
    refine lv_iconst (v := 1) hx hb dX9_screenOf_10 (by decide) ?_
    refine lv_icmp_ne (tgt := 16) hx hb dX9_screenOf_11 (by decide) (fun c2 => ?_) (fun c2 => ?_)
    · have hw := hw.2 c2
      refine lv_iload_n hx hb dX9_screenOf_16 rfl (lv_at hl 1 rfl) ?_
      refine lv_iconst (v := 2) hx hb dX9_screenOf_17 (by decide) ?_
      refine lv_icmp_eq (tgt := 28) hx hb dX9_screenOf_18 (by decide) (fun c3 => ?_) (fun c3 => ?_)
      · have hw := hw.1 c3
        exact r9_screenOf_28 S hr hlocks hK hI  _ _ _ hw _ _ hM hS _ (lv_sub hl [0, 1] rfl)
      · have hw := hw.2 c3
        refine lv_iload_n hx hb dX9_screenOf_21 rfl (lv_at hl 1 rfl) ?_
        refine lv_iconst (v := 3) hx hb dX9_screenOf_22 (by decide) ?_
        refine lv_icmp_eq (tgt := 28) hx hb dX9_screenOf_23 (by decide) (fun c14 => ?_) (fun c14 => ?_)
        · have hw := hw.1 c14
          exact r9_screenOf_28 S hr hlocks hK hI  _ _ _ hw _ _ hM hS _ (lv_sub hl [0, 1] rfl)
        · have hw := hw.2 c14
          refine lv_iconst (v := (-1)) hx hb dX9_screenOf_26 (by decide) ?_
          exact mo_iret S hr hlocks hM hS hw dX9_screenOf_27
    · have hw := hw.1 c2
      refine lv_iconst (v := 0) hx hb dX9_screenOf_14 (by decide) ?_
      exact mo_iret S hr hlocks hM hS hw dX9_screenOf_15
  · have hw := hw.1 c1
    refine lv_aload_n hx hb dX9_screenOf_4 rfl (lv_at hl 0 rfl) ?_
    refine mo_calli (As := []) S hK hM hS (m9_nearNewest l g V A  _ hI hw) (cwV 0 hts (lw_V q1029 q1031 qs35 q64 q1032) rfl rfl rfl (by decide +kernel) ⟨Nat.le_of_ble_eq_true rfl, Nat.le_of_ble_eq_true rfl⟩) rfl hl.1 rfl (lv_room (Nat.le_of_ble_eq_true rfl)) dX9_screenOf_5 ⟨Nat.zero_le _, Nat.zero_le _⟩ (fun r17 V15 A16 H locs hw hM hS => ?_)
    exact mo_iret S hr hlocks hM hS hw dX9_screenOf_8
/-! FarTypewriterModel.cell(IIII)I -/
abbrev rm9_cell : Room := { frames := 2, cells := 0, slots := 0, locals := 45 }
def w9_cell (post : Int32 → VV → AA → Prop) (V : VV) (A : AA) (x1 x2 x3 x4 : Int32) : Prop :=
  w9_screenOf (fun (r3 : Int32) (V1 : VV) (A2 : AA) => (r3 = (-1) → post (-1) V1 A2) ∧ (¬ r3 = (-1) → w9_isCell (fun (r7 : Int32) (V5 : VV) (A6 : AA) => (r7 = 0 → post (-1) V5 A6) ∧ (¬ r7 = 0 → ∀ y6_9 : Int32, y6_9 = ((192 * r3) + (24 * x2)) + x3 → ((x4 = 0 → vp_in y6_9 13248 ∧ post (A6 0 y6_9.toNatClampNeg) V5 A6) ∧ (¬ x4 = 0 → (x4 = 1 → vp_in y6_9 13248 ∧ post (A6 1 y6_9.toNatClampNeg) V5 A6) ∧ (¬ x4 = 1 → post (-1) V5 A6))))) V1 A2 x2 x3)) V A x1
set_option maxHeartbeats 4000000 in
set_option maxRecDepth 100000 in
theorem m9_cell (l : Launch) (g : MG) (V : VV) (A : AA) (x1 x2 x3 x4 : Int32) (post : Int32 → VV → AA → Prop) (hI : HI g) (hw : w9_cell post V A x1 x2 x3 x4) : Met l yX9_cell (ws_ yX9_cell cX9_cell 7 (some .int)) rm9_cell (MPc g V A [.ref (mh g), .int x1, .int x2, .int x3, .int x4]) (MQi g post) 0 0 (HA g) := by
  refine Met.ofW (cc := cX9_cell) (maxL := 7) (ret := (some .int)) (by decide) rfl ?_
  intro p e s m args below meth c s₁ B hml hv
  obtain ⟨rfl, hK, hM⟩ := hv
  have hx := B.exec
  have hb := B.bytes
  have hr : meth.sig.returnType = (some .int) := B.returns
  have hts := atoms_spec (ws := ws_ yX9_cell cX9_cell 7 (some .int)) B.pre
  have hts : ∀ w ∈ lw_all, w.before _ s = true := fun w h => hts w (List.mem_cons_of_mem _ h)
  have hown : s.vm.findClass RX9 = some m.cls := findClass_of_methodNamed B.named
  have hlocks : meth.locks = false := B.notSynchronized
  have S : CallFix p m c cX9_cell 7 s _ lw_all RX9 := ⟨hx, hb, hml, hown, hts⟩
  have hS : va_S (HA g) s.heap s.heap [] := va_S.rf
  have hl := lv_entry ([.ref (mh g), .int x1, .int x2, .int x3, .int x4]) (n := 7) (Nat.le_of_ble_eq_true rfl)
  rw [lg_entry_eq]
  generalize (lg_sl ([.ref (mh g), .int x1, .int x2, .int x3, .int x4]) ++ List.replicate (7 - (lg_sl ([.ref (mh g), .int x1, .int x2, .int x3, .int x4])).length) Slot.unset).toArray = ls at hl ⊢
  have hl : lv_has ls 7 [(0, .ref (mh g)), (1, .int x1), (2, .int x2), (3, .int x3), (4, .int x4)] := hl
  unfold w9_cell at hw
  refine lv_aload_n hx hb dX9_cell_0 rfl (lv_at hl 0 rfl) ?_
  refine lv_iload_n hx hb dX9_cell_1 rfl (lv_at hl 1 rfl) ?_
  refine mo_calli (As := [.int x1]) S hK hM hS (m9_screenOf l g V A x1 _ hI hw) (cwV 1 hts (lw_V q1118 q1120 qs52 q64 q1121) rfl rfl rfl (by decide +kernel) ⟨Nat.le_of_ble_eq_true rfl, Nat.le_of_ble_eq_true rfl⟩) rfl hl.1 rfl (lv_room (Nat.le_of_ble_eq_true rfl)) dX9_cell_2 ⟨Nat.zero_le _, Nat.zero_le _⟩ (fun r3 V1 A2 H locs hw hM hS => ?_)
  refine lv_istore (lv' := [(5, .int r3), (0, .ref (mh g)), (1, .int x1), (2, .int x2), (3, .int x3), (4, .int x4)]) hx hb dX9_cell_5 hl (by decide) rfl (fun ls hl => ?_)
  refine lv_iload hx hb dX9_cell_7 (lv_at hl 0 rfl) ?_
  refine lv_iconst (v := (-1)) hx hb dX9_cell_9 (by decide) ?_
  refine lv_icmp_eq (tgt := 21) hx hb dX9_cell_10 (by decide) (fun c4 => ?_) (fun c4 => ?_)
  · have hw := hw.1 c4
    refine lv_iconst (v := (-1)) hx hb dX9_cell_21 (by decide) ?_
    exact mo_iret S hr hlocks hM hS hw dX9_cell_22
  · have hw := hw.2 c4
    refine lv_iload_n hx hb dX9_cell_13 rfl (lv_at hl 3 rfl) ?_
    refine lv_iload_n hx hb dX9_cell_14 rfl (lv_at hl 4 rfl) ?_
    refine mo_scalli (As := [.int x2, .int x3]) S hK hM hS (m9_isCell l g V1 A2 x2 x3 _ hI hw) (va_cwS 2 hts (lw_S q953 q954 q64 q955) rfl rfl rfl (by decide +kernel) ⟨Nat.le_of_ble_eq_true rfl, Nat.le_of_ble_eq_true rfl⟩) rfl hl.1 rfl (lv_room (Nat.le_of_ble_eq_true rfl)) dX9_cell_15 ⟨Nat.zero_le _, Nat.zero_le _⟩ (fun r7 V5 A6 H locs hw hM hS => ?_)
    refine lv_if_ne (tgt := 23) hx hb dX9_cell_18 (by decide) (fun c8 => ?_) (fun c8 => ?_)
    · have hw := hw.2 c8
      refine lv_sipush (v := 192) hx hb dX9_cell_23 (by decide) ?_
      refine lv_iload hx hb dX9_cell_26 (lv_at hl 0 rfl) ?_
      refine lv_imul hx hb dX9_cell_28 ?_
      refine lv_bipush (v := 24) hx hb dX9_cell_29 (by decide) ?_
      refine lv_iload_n hx hb dX9_cell_31 rfl (lv_at hl 3 rfl) ?_
      refine lv_imul hx hb dX9_cell_32 ?_
      refine lv_iadd hx hb dX9_cell_33 ?_
      refine lv_iload_n hx hb dX9_cell_34 rfl (lv_at hl 4 rfl) ?_
      refine lv_iadd hx hb dX9_cell_35 ?_
      refine lv_topi (fun y6_9 ey6_9 => ?_)
      have hw := hw y6_9 ey6_9
      refine lv_istore (lv' := [(6, .int y6_9), (5, .int r3), (0, .ref (mh g)), (1, .int x1), (2, .int x2), (3, .int x3), (4, .int x4)]) hx hb dX9_cell_36 hl (by decide) rfl (fun ls hl => ?_)
      refine lv_iload hx hb dX9_cell_38 (lv_at hl 6 rfl) ?_
      refine lv_if_ne (tgt := 53) hx hb dX9_cell_40 (by decide) (fun c10 => ?_) (fun c10 => ?_)
      · have hw := hw.2 c10
        refine lv_iload hx hb dX9_cell_53 (lv_at hl 6 rfl) ?_
        refine lv_iconst (v := 1) hx hb dX9_cell_55 (by decide) ?_
        refine lv_icmp_ne (tgt := 69) hx hb dX9_cell_56 (by decide) (fun c11 => ?_) (fun c11 => ?_)
        · have hw := hw.2 c11
          refine lv_iconst (v := (-1)) hx hb dX9_cell_69 (by decide) ?_
          exact mo_iret S hr hlocks hM hS hw dX9_cell_70
        · have hw := hw.1 c11
          refine lv_aload_n hx hb dX9_cell_59 rfl (lv_at hl 2 rfl) ?_
          refine mo_geta S hK hM 1 (by decide) q780 dX9_cell_60 rfl ?_
          refine lv_iload hx hb dX9_cell_63 (lv_at hl 0 rfl) ?_
          have hin := hw.1
          have hw := hw.2
          refine mo_ald S hK hM 1 rfl hin dX9_cell_65 ?_
          refine lv_goto (tgt := 70) hx hb dX9_cell_66 (by decide) ?_
          exact mo_iret S hr hlocks hM hS hw dX9_cell_70
      · have hw := hw.1 c10
        refine lv_aload_n hx hb dX9_cell_43 rfl (lv_at hl 2 rfl) ?_
        refine mo_geta S hK hM 0 (by decide) q779 dX9_cell_44 rfl ?_
        refine lv_iload hx hb dX9_cell_47 (lv_at hl 0 rfl) ?_
        have hin := hw.1
        have hw := hw.2
        refine mo_ald S hK hM 0 rfl hin dX9_cell_49 ?_
        refine lv_goto (tgt := 70) hx hb dX9_cell_50 (by decide) ?_
        exact mo_iret S hr hlocks hM hS hw dX9_cell_70
    · have hw := hw.1 c8
      refine lv_iconst (v := (-1)) hx hb dX9_cell_21 (by decide) ?_
      exact mo_iret S hr hlocks hM hS hw dX9_cell_22
