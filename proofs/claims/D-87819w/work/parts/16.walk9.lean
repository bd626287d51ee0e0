/-! FarTypewriterModel.byNear()V -/
abbrev rm9_byNear : Room := { frames := 3, cells := 0, slots := 0, locals := 76 }
def w9_byNear_247 (post : VV → AA → Prop)  (V : VV) (A : AA) (x1 : Int32) : Prop :=
  w9_nearNewest (fun (r28 : Int32) (V26 : VV) (A27 : AA) => vp_in r28 69 ∧ (((A27 4 r28.toNatClampNeg) ≤ x1 → post V26 A27) ∧ (¬ (A27 4 r28.toNatClampNeg) ≤ x1 → post (vu V26 26 1) A27))) (vu V 28 x1) A 
set_option maxHeartbeats 4000000 in
set_option maxRecDepth 100000 in
theorem r9_byNear_247 {p : Program} {l : Launch} {e : Env} {s : State} {m : MethodId} {args : Array Value} {below : List Frame} {meth : Method} {c : Code} {g : MG} (S : CallFix p m c cX9_byNear 5 s args lw_all RX9) (hr : meth.sig.returnType = none) (hlocks : meth.locks = false) (hK : KM g s) (hI : HI g) {post : VV → AA → Prop}  : ∀ (V : VV) (A : AA) (x1 : Int32), w9_byNear_247 post  V A x1 → ∀ (H : Heap) (locs : List Loc), HM g V A H → va_S (HA g) s.heap H locs → ∀ (ls : Array Slot), lv_has ls 5 [(0, .ref (mh g)), (1, .int x1)] → W p l e rm9_byNear s m args below meth c H locs 0 0 (MQ below (MQv g post) args s 0 0 (HA g)) (F0 m 247 ls []) := by
  have hx := S.1
  have hb := S.2.1
  have hown := S.2.2.2.1
  have hts := S.2.2.2.2
  intro V A x1 hw H locs hM hS ls hl
  unfold w9_byNear_247 at hw
  refine lv_aload_n hx hb dX9_byNear_247 rfl (lv_at hl 0 rfl) ?_
  refine lv_iload_n hx hb dX9_byNear_248 rfl (lv_at hl 1 rfl) ?_
  refine mo_put S hK hI hM hS 28 (by decide) q807 dX9_byNear_249 rfl rfl ⟨rfl, rfl⟩ (fun H locs hM hS => ?_)
  refine lv_iload_n hx hb dX9_byNear_252 rfl (lv_at hl 1 rfl) ?_
  refine lv_aload_n hx hb dX9_byNear_253 rfl (lv_at hl 0 rfl) ?_
  refine mo_geta S hK hM 4 (by decide) q783 dX9_byNear_254 rfl ?_
  refine lv_aload_n hx hb dX9_byNear_257 rfl (lv_at hl 0 rfl) ?_
  refine mo_calli (As := []) S hK hM hS (m9_nearNewest l g (vu V 28 x1) A  _ hI hw) (cwV 0 hts (lw_V q1029 q1031 qs35 q64 q1032) rfl rfl rfl (by decide +kernel) ⟨Nat.le_of_ble_eq_true rfl, Nat.le_of_ble_eq_true rfl⟩) rfl hl.1 rfl (lv_room (Nat.le_of_ble_eq_true rfl)) dX9_byNear_258 ⟨Nat.zero_le _, Nat.zero_le _⟩ (fun r28 V26 A27 H locs hw hM hS => ?_)
  have hin := hw.1
  have hw := hw.2
  refine mo_ald S hK hM 4 rfl hin dX9_byNear_261 ?_
  refine lv_icmp_ge (tgt := 270) hx hb dX9_byNear_262 (by decide) (fun c29 => ?_) (fun c29 => ?_)
  · have hw := hw.1 c29
    exact mo_vret S hr hlocks hM hS hw dX9_byNear_270
  · have hw := hw.2 c29
    refine lv_aload_n hx hb dX9_byNear_265 rfl (lv_at hl 0 rfl) ?_
    refine lv_iconst (v := 1) hx hb dX9_byNear_266 (by decide) ?_
    refine mo_put S hK hI hM hS 26 (by decide) q805 dX9_byNear_267 rfl rfl ⟨rfl, rfl⟩ (fun H locs hM hS => ?_)
    exact mo_vret S hr hlocks hM hS hw dX9_byNear_270
def w9_byNear_142 (post : VV → AA → Prop)  (V : VV) (A : AA) (x1 x2 x3 : Int32) : Prop :=
  w9_nearNewest (fun (r24 : Int32) (V22 : VV) (A23 : AA) => vp_in r24 69 ∧ ((x3 ≤ (A23 4 r24.toNatClampNeg) → w9_byNear_247 post V22 A23 x1) ∧ (¬ x3 ≤ (A23 4 r24.toNatClampNeg) → w9_nearNewest (fun (r32 : Int32) (V30 : VV) (A31 : AA) => ∀ y4_33 : Int32, y4_33 = r32 + 1 → (w9_copies (fun (V34 : VV) (A35 : AA) => w9_laid (fun (V37 : VV) (A38 : AA) => vp_in y4_33 69 ∧ (w9_twoAt (fun (r42 : Int32) (V40 : VV) (A41 : AA) => vp_in y4_33 69 ∧ (vp_in 8 1100 ∧ (vp_in y4_33 69 ∧ (vp_in 9 1100 ∧ (vp_in y4_33 69 ∧ w9_settles (fun (V43 : VV) (A44 : AA) => w9_byNear_247 post V43 A44 x1) (vu V40 23 ((V40 23) + 1)) (au (au (au A41 5 y4_33.toNatClampNeg r42) 2 y4_33.toNatClampNeg ((au A41 5 y4_33.toNatClampNeg r42) 33 (8 : Int32).toNatClampNeg)) 3 y4_33.toNatClampNeg ((au (au A41 5 y4_33.toNatClampNeg r42) 2 y4_33.toNatClampNeg ((au A41 5 y4_33.toNatClampNeg r42) 33 (8 : Int32).toNatClampNeg)) 33 (9 : Int32).toNatClampNeg)) ))))) V37 (au A38 4 y4_33.toNatClampNeg x3) 6)) V34 A35 y4_33 10 ((V34 34) - 2)) V30 A31 x2 y4_33)) V22 A23 ))) V A 
set_option maxHeartbeats 4000000 in
set_option maxRecDepth 100000 in
theorem r9_byNear_142 {p : Program} {l : Launch} {e : Env} {s : State} {m : MethodId} {args : Array Value} {below : List Frame} {meth : Method} {c : Code} {g : MG} (S : CallFix p m c cX9_byNear 5 s args lw_all RX9) (hr : meth.sig.returnType = none) (hlocks : meth.locks = false) (hK : KM g s) (hI : HI g) {post : VV → AA → Prop}  : ∀ (V : VV) (A : AA) (x1 x2 x3 : Int32), w9_byNear_142 post  V A x1 x2 x3 → ∀ (H : Heap) (locs : List Loc), HM g V A H → va_S (HA g) s.heap H locs → ∀ (ls : Array Slot), lv_has ls 5 [(0, .ref (mh g)), (1, .int x1), (2, .int x2), (3, .int x3)] → W p l e rm9_byNear s m args below meth c H locs 0 0 (MQ below (MQv g post) args s 0 0 (HA g)) (F0 m 142 ls []) := by
  have hx := S.1
  have hb := S.2.1
  have hown := S.2.2.2.1
  have hts := S.2.2.2.2
  intro V A x1 x2 x3 hw H locs hM hS ls hl
  unfold w9_byNear_142 at hw
  refine lv_iload_n hx hb dX9_byNear_142 rfl (lv_at hl 3 rfl) ?_
  refine lv_aload_n hx hb dX9_byNear_143 rfl (lv_at hl 0 rfl) ?_
  refine mo_geta S hK hM 4 (by decide) q783 dX9_byNear_144 rfl ?_
  refine lv_aload_n hx hb dX9_byNear_147 rfl (lv_at hl 0 rfl) ?_
  refine mo_calli (As := []) S hK hM hS (m9_nearNewest l g V A  _ hI hw) (cwV 0 hts (lw_V q1029 q1031 qs35 q64 q1032) rfl rfl rfl (by decide +kernel) ⟨Nat.le_of_ble_eq_true rfl, Nat.le_of_ble_eq_true rfl⟩) rfl hl.1 rfl (lv_room (Nat.le_of_ble_eq_true rfl)) dX9_byNear_148 ⟨Nat.zero_le _, Nat.zero_le _⟩ (fun r24 V22 A23 H locs hw hM hS => ?_)
  have hin := hw.1
  have hw := hw.2
  refine mo_ald S hK hM 4 rfl hin dX9_byNear_151 ?_
  refine lv_icmp_le (tgt := 247) hx hb dX9_byNear_152 (by decide) (fun c25 => ?_) (fun c25 => ?_)
  · have hw := hw.1 c25
    exact r9_byNear_247 S hr hlocks hK hI  _ _ _ hw _ _ hM hS _ (lv_sub hl [0, 1] rfl)
  · have hw := hw.2 c25
    refine lv_aload_n hx hb dX9_byNear_155 rfl (lv_at hl 0 rfl) ?_
    refine mo_calli (As := []) S hK hM hS (m9_nearNewest l g V22 A23  _ hI hw) (cwV 0 hts (lw_V q1029 q1031 qs35 q64 q1032) rfl rfl rfl (by decide +kernel) ⟨Nat.le_of_ble_eq_true rfl, Nat.le_of_ble_eq_true rfl⟩) rfl hl.1 rfl (lv_room (Nat.le_of_ble_eq_true rfl)) dX9_byNear_156 ⟨Nat.zero_le _, Nat.zero_le _⟩ (fun r32 V30 A31 H locs hw hM hS => ?_)
    refine lv_iconst (v := 1) hx hb dX9_byNear_159 (by decide) ?_
    refine lv_iadd hx hb dX9_byNear_160 ?_
    refine lv_topi (fun y4_33 ey4_33 => ?_)
    have hw := hw y4_33 ey4_33
    refine lv_istore (lv' := [(4, .int y4_33), (0, .ref (mh g)), (1, .int x1), (2, .int x2), (3, .int x3)]) hx hb dX9_byNear_161 hl (by decide) rfl (fun ls hl => ?_)
    refine lv_aload_n hx hb dX9_byNear_163 rfl (lv_at hl 1 rfl) ?_
    refine lv_iload_n hx hb dX9_byNear_164 rfl (lv_at hl 3 rfl) ?_
    refine lv_iload hx hb dX9_byNear_165 (lv_at hl 0 rfl) ?_
    refine mo_callv (As := [.int x2, .int y4_33]) S hK hM hS (m9_copies l g V30 A31 x2 y4_33 _ hI hw) (cwV 2 hts (lw_V q984 q986 qs24 q64 q987) rfl rfl rfl (by decide +kernel) ⟨Nat.le_of_ble_eq_true rfl, Nat.le_of_ble_eq_true rfl⟩) rfl hl.1 rfl (lv_room (Nat.le_of_ble_eq_true rfl)) dX9_byNear_167 ⟨Nat.zero_le _, Nat.zero_le _⟩ (fun V34 A35 H locs hw hM hS => ?_)
    refine lv_aload_n hx hb dX9_byNear_170 rfl (lv_at hl 1 rfl) ?_
    refine lv_iload hx hb dX9_byNear_171 (lv_at hl 0 rfl) ?_
    refine lv_bipush (v := 10) hx hb dX9_byNear_173 (by decide) ?_
    refine lv_aload_n hx hb dX9_byNear_175 rfl (lv_at hl 1 rfl) ?_
    refine mo_geti S hK hM 34 (by decide) q813 dX9_byNear_176 rfl ?_
    refine lv_iconst (v := 2) hx hb dX9_byNear_179 (by decide) ?_
    refine lv_isub hx hb dX9_byNear_180 ?_
    refine mo_callv (As := [.int y4_33, .int 10, .int ((V34 34) - 2)]) S hK hM hS (m9_laid l g V34 A35 y4_33 10 ((V34 34) - 2) _ hI hw) (cwV 3 hts (lw_V q1089 q1091 qs49 q64 q1092) rfl rfl rfl (by decide +kernel) ⟨Nat.le_of_ble_eq_true rfl, Nat.le_of_ble_eq_true rfl⟩) rfl hl.1 rfl (lv_room (Nat.le_of_ble_eq_true rfl)) dX9_byNear_181 ⟨Nat.zero_le _, Nat.zero_le _⟩ (fun V37 A38 H locs hw hM hS => ?_)
    refine lv_aload_n hx hb dX9_byNear_184 rfl (lv_at hl 1 rfl) ?_
    refine mo_geta S hK hM 4 (by decide) q783 dX9_byNear_185 rfl ?_
    refine lv_iload hx hb dX9_byNear_188 (lv_at hl 0 rfl) ?_
    refine lv_iload_n hx hb dX9_byNear_190 rfl (lv_at hl 4 rfl) ?_
    have hin := hw.1
    have hw := hw.2
    refine mo_ast S hK hI hM hS 4 rfl hin dX9_byNear_191 (fun H locs hM hS => ?_)
    refine lv_aload_n hx hb dX9_byNear_192 rfl (lv_at hl 1 rfl) ?_
    refine mo_geta S hK hM 5 (by decide) q784 dX9_byNear_193 rfl ?_
    refine lv_iload hx hb dX9_byNear_196 (lv_at hl 0 rfl) ?_
    refine lv_aload_n hx hb dX9_byNear_198 rfl (lv_at hl 1 rfl) ?_
    refine lv_bipush (v := 6) hx hb dX9_byNear_199 (by decide) ?_
    refine mo_calli (As := [.int 6]) S hK hM hS (m9_twoAt l g V37 (au A38 4 y4_33.toNatClampNeg x3) 6 _ hI hw) (cwV 1 hts (lw_V q1053 q1055 qs40 q64 q1056) rfl rfl rfl (by decide +kernel) ⟨Nat.le_of_ble_eq_true rfl, Nat.le_of_ble_eq_true rfl⟩) rfl hl.1 rfl (lv_room (Nat.le_of_ble_eq_true rfl)) dX9_byNear_201 ⟨Nat.zero_le _, Nat.zero_le _⟩ (fun r42 V40 A41 H locs hw hM hS => ?_)
    have hin := hw.1
    have hw := hw.2
    refine mo_ast S hK hI hM hS 5 rfl hin dX9_byNear_204 (fun H locs hM hS => ?_)
    refine lv_aload_n hx hb dX9_byNear_205 rfl (lv_at hl 1 rfl) ?_
    refine mo_geta S hK hM 2 (by decide) q781 dX9_byNear_206 rfl ?_
    refine lv_iload hx hb dX9_byNear_209 (lv_at hl 0 rfl) ?_
    refine lv_aload_n hx hb dX9_byNear_211 rfl (lv_at hl 1 rfl) ?_
    refine mo_geta S hK hM 33 (by decide) q812 dX9_byNear_212 rfl ?_
    refine lv_bipush (v := 8) hx hb dX9_byNear_215 (by decide) ?_
    have hin := hw.1
    have hw := hw.2
    refine mo_ald S hK hM 33 rfl hin dX9_byNear_217 ?_
    have hin := hw.1
    have hw := hw.2
    refine mo_ast S hK hI hM hS 2 rfl hin dX9_byNear_218 (fun H locs hM hS => ?_)
    refine lv_aload_n hx hb dX9_byNear_219 rfl (lv_at hl 1 rfl) ?_
    refine mo_geta S hK hM 3 (by decide) q782 dX9_byNear_220 rfl ?_
    refine lv_iload hx hb dX9_byNear_223 (lv_at hl 0 rfl) ?_
    refine lv_aload_n hx hb dX9_byNear_225 rfl (lv_at hl 1 rfl) ?_
    refine mo_geta S hK hM 33 (by decide) q812 dX9_byNear_226 rfl ?_
    refine lv_bipush (v := 9) hx hb dX9_byNear_229 (by decide) ?_
    have hin := hw.1
    have hw := hw.2
    refine mo_ald S hK hM 33 rfl hin dX9_byNear_231 ?_
    have hin := hw.1
    have hw := hw.2
    refine mo_ast S hK hI hM hS 3 rfl hin dX9_byNear_232 (fun H locs hM hS => ?_)
    refine lv_aload_n hx hb dX9_byNear_233 rfl (lv_at hl 1 rfl) ?_
    refine lv_dup hx hb dX9_byNear_234 rfl ?_
    refine mo_geti S hK hM 23 (by decide) q802 dX9_byNear_235 rfl ?_
    refine lv_iconst (v := 1) hx hb dX9_byNear_238 (by decide) ?_
    refine lv_iadd hx hb dX9_byNear_239 ?_
    refine mo_put S hK hI hM hS 23 (by decide) q802 dX9_byNear_240 rfl rfl ⟨rfl, rfl⟩ (fun H locs hM hS => ?_)
    refine lv_aload_n hx hb dX9_byNear_243 rfl (lv_at hl 1 rfl) ?_
    refine mo_callv (As := []) S hK hM hS (m9_settles l g (vu V40 23 ((V40 23) + 1)) (au (au (au A41 5 y4_33.toNatClampNeg r42) 2 y4_33.toNatClampNeg ((au A41 5 y4_33.toNatClampNeg r42) 33 (8 : Int32).toNatClampNeg)) 3 y4_33.toNatClampNeg ((au (au A41 5 y4_33.toNatClampNeg r42) 2 y4_33.toNatClampNeg ((au A41 5 y4_33.toNatClampNeg r42) 33 (8 : Int32).toNatClampNeg)) 33 (9 : Int32).toNatClampNeg))  _ hI hw) (cwV 0 hts (lw_V q1093 q1095 qs50 q64 q1096) rfl rfl rfl (by decide +kernel) ⟨Nat.le_of_ble_eq_true rfl, Nat.le_of_ble_eq_true rfl⟩) rfl hl.1 rfl (lv_room (Nat.le_of_ble_eq_true rfl)) dX9_byNear_244 ⟨Nat.zero_le _, Nat.zero_le _⟩ (fun V43 A44 H locs hw hM hS => ?_)
    exact r9_byNear_247 S hr hlocks hK hI  _ _ _ hw _ _ hM hS _ (lv_sub hl [1, 2] rfl)
def w9_byNear (post : VV → AA → Prop) (V : VV) (A : AA) : Prop :=
  vp_in 1 1100 ∧ (((A 33 (1 : Int32).toNatClampNeg) = (V 27) → w9_twoAt (fun (r4 : Int32) (V2 : VV) (A3 : AA) => w9_stateOf (fun (r7 : Int32) (V5 : VV) (A6 : AA) => (r7 = (-1) → vp_in 4 10 ∧ (vp_in 4 10 ∧ (w9_nearNewest (fun (r51 : Int32) (V49 : VV) (A50 : AA) => vp_in r51 69 ∧ (((A50 4 r51.toNatClampNeg) ≤ r4 → post V49 A50) ∧ (¬ (A50 4 r51.toNatClampNeg) ≤ r4 → post (vu V49 26 1) A50))) V5 (au A6 29 (4 : Int32).toNatClampNeg ((A6 29 (4 : Int32).toNatClampNeg) + 1)) ))) ∧ (¬ r7 = (-1) → vp_in 5 10 ∧ (vp_in 5 10 ∧ (w9_goBelow (fun (r11 : Int32) (V9 : VV) (A10 : AA) => w9_stateOf (fun (r14 : Int32) (V12 : VV) (A13 : AA) => w9_twoAt (fun (r17 : Int32) (V15 : VV) (A16 : AA) => w9_twoAt (fun (r20 : Int32) (V18 : VV) (A19 : AA) => (r20 ≤ (V18 22) → w9_byNear_142 post V18 A19 r4 r14 r17) ∧ (¬ r20 ≤ (V18 22) → w9_twoAt (fun (r48 : Int32) (V46 : VV) (A47 : AA) => w9_byNear_142 post (vu V46 22 r48) A47 r4 r14 r17) V18 A19 6)) V15 A16 6) V12 A13 4) (vu V9 23 r11) A10 34 ((vu V9 23 r11) 23) r4) V5 (au A6 29 (5 : Int32).toNatClampNeg ((A6 29 (5 : Int32).toNatClampNeg) + 1)) 34 (V5 23) r4)))) V2 A3 34 (V2 23) r4) V A 2) ∧ (¬ (A 33 (1 : Int32).toNatClampNeg) = (V 27) → vp_in 2 10 ∧ (vp_in 2 10 ∧ post V (au A 29 (2 : Int32).toNatClampNeg ((A 29 (2 : Int32).toNatClampNeg) + 1)))))
set_option maxHeartbeats 4000000 in
set_option maxRecDepth 100000 in
theorem m9_byNear (l : Launch) (g : MG) (V : VV) (A : AA) (post : VV → AA → Prop) (hI : HI g) (hw : w9_byNear post V A ) : Met l yX9_byNear (ws_ yX9_byNear cX9_byNear 5 none) rm9_byNear (MPc g V A [.ref (mh g)]) (MQv g post) 0 0 (HA g) := by
  refine Met.ofW (cc := cX9_byNear) (maxL := 5) (ret := none) (by decide) rfl ?_
  intro p e s m args below meth c s₁ B hml hv
  obtain ⟨rfl, hK, hM⟩ := hv
  have hx := B.exec
  have hb := B.bytes
  have hr : meth.sig.returnType = none := B.returns
  have hts := atoms_spec (ws := ws_ yX9_byNear cX9_byNear 5 none) B.pre
  have hts : ∀ w ∈ lw_all, w.before _ s = true := fun w h => hts w (List.mem_cons_of_mem _ h)
  have hown : s.vm.findClass RX9 = some m.cls := findClass_of_methodNamed B.named
  have hlocks : meth.locks = false := B.notSynchronized
  have S : CallFix p m c cX9_byNear 5 s _ lw_all RX9 := ⟨hx, hb, hml, hown, hts⟩
  have hS : va_S (HA g) s.heap s.heap [] := va_S.rf
  have hl := lv_entry ([.ref (mh g)]) (n := 5) (Nat.le_of_ble_eq_true rfl)
  rw [lg_entry_eq]
  generalize (lg_sl ([.ref (mh g)]) ++ List.replicate (5 - (lg_sl ([.ref (mh g)])).length) Slot.unset).toArray = ls at hl ⊢
  have hl : lv_has ls 5 [(0, .ref (mh g))] := hl
  unfold w9_byNear at hw
  refine lv_aload_n hx hb dX9_byNear_0 rfl (lv_at hl 0 rfl) ?_
  refine mo_geta S hK hM 33 (by decide) q812 dX9_byNear_1 rfl ?_
  refine lv_iconst (v := 1) hx hb dX9_byNear_4 (by decide) ?_
  have hin := hw.1
  have hw := hw.2
  refine mo_ald S hK hM 33 rfl hin dX9_byNear_5 ?_
  refine lv_aload_n hx hb dX9_byNear_6 rfl (lv_at hl 0 rfl) ?_
  refine mo_geti S hK hM 27 (by decide) q806 dX9_byNear_7 rfl ?_
  refine lv_icmp_eq (tgt := 24) hx hb dX9_byNear_10 (by decide) (fun c1 => ?_) (fun c1 => ?_)
  · have hw := hw.1 c1
    refine lv_aload_n hx hb dX9_byNear_24 rfl (lv_at hl 0 rfl) ?_
    refine lv_iconst (v := 2) hx hb dX9_byNear_25 (by decide) ?_
    refine mo_calli (As := [.int 2]) S hK hM hS (m9_twoAt l g V A 2 _ hI hw) (cwV 1 hts (lw_V q1053 q1055 qs40 q64 q1056) rfl rfl rfl (by decide +kernel) ⟨Nat.le_of_ble_eq_true rfl, Nat.le_of_ble_eq_true rfl⟩) rfl hl.1 rfl (lv_room (Nat.le_of_ble_eq_true rfl)) dX9_byNear_26 ⟨Nat.zero_le _, Nat.zero_le _⟩ (fun r4 V2 A3 H locs hw hM hS => ?_)
    refine lv_istore_n (lv' := [(1, .int r4), (0, .ref (mh g))]) hx hb dX9_byNear_29 rfl hl (by decide) rfl (fun ls hl => ?_)
    refine lv_aload_n hx hb dX9_byNear_30 rfl (lv_at hl 1 rfl) ?_
    refine lv_bipush (v := 34) hx hb dX9_byNear_31 (by decide) ?_
    refine lv_aload_n hx hb dX9_byNear_33 rfl (lv_at hl 1 rfl) ?_
    refine mo_geti S hK hM 23 (by decide) q802 dX9_byNear_34 rfl ?_
    refine lv_iload_n hx hb dX9_byNear_37 rfl (lv_at hl 0 rfl) ?_
    refine mo_calli (As := [.int 34, .int (V2 23), .int r4]) S hK hM hS (m9_stateOf l g V2 A3 34 (V2 23) r4 _ hI hw) (cwV 3 hts (lw_V q996 q998 qs27 q64 q999) rfl rfl rfl (by decide +kernel) ⟨Nat.le_of_ble_eq_true rfl, Nat.le_of_ble_eq_true rfl⟩) rfl hl.1 rfl (lv_room (Nat.le_of_ble_eq_true rfl)) dX9_byNear_38 ⟨Nat.zero_le _, Nat.zero_le _⟩ (fun r7 V5 A6 H locs hw hM hS => ?_)
    refine lv_istore_n (lv' := [(2, .int r7), (1, .int r4), (0, .ref (mh g))]) hx hb dX9_byNear_41 rfl hl (by decide) rfl (fun ls hl => ?_)
    refine lv_iload_n hx hb dX9_byNear_42 rfl (lv_at hl 0 rfl) ?_
    refine lv_iconst (v := (-1)) hx hb dX9_byNear_43 (by decide) ?_
    refine lv_icmp_ne (tgt := 76) hx hb dX9_byNear_44 (by decide) (fun c8 => ?_) (fun c8 => ?_)
    · have hw := hw.2 c8
      refine lv_aload_n hx hb dX9_byNear_76 rfl (lv_at hl 2 rfl) ?_
      refine mo_geta S hK hM 29 (by decide) q808 dX9_byNear_77 rfl ?_
      refine lv_iconst (v := 5) hx hb dX9_byNear_80 (by decide) ?_
      refine lv_dup2_11 hx hb dX9_byNear_81 rfl rfl ?_
      have hin := hw.1
      have hw := hw.2
      refine mo_ald S hK hM 29 rfl hin dX9_byNear_82 ?_
      refine lv_iconst (v := 1) hx hb dX9_byNear_83 (by decide) ?_
      refine lv_iadd hx hb dX9_byNear_84 ?_
      have hin := hw.1
      have hw := hw.2
      refine mo_ast S hK hI hM hS 29 rfl hin dX9_byNear_85 (fun H locs hM hS => ?_)
      refine lv_aload_n hx hb dX9_byNear_86 rfl (lv_at hl 2 rfl) ?_
      refine lv_aload_n hx hb dX9_byNear_87 rfl (lv_at hl 2 rfl) ?_
      refine lv_bipush (v := 34) hx hb dX9_byNear_88 (by decide) ?_
      refine lv_aload_n hx hb dX9_byNear_90 rfl (lv_at hl 2 rfl) ?_
      refine mo_geti S hK hM 23 (by decide) q802 dX9_byNear_91 rfl ?_
      refine lv_iload_n hx hb dX9_byNear_94 rfl (lv_at hl 1 rfl) ?_
      refine mo_calli (As := [.int 34, .int (V5 23), .int r4]) S hK hM hS (m9_goBelow l g V5 (au A6 29 (5 : Int32).toNatClampNeg ((A6 29 (5 : Int32).toNatClampNeg) + 1)) 34 (V5 23) r4 _ hI hw) (cwV 3 hts (lw_V q1081 q1083 qs47 q64 q1084) rfl rfl rfl (by decide +kernel) ⟨Nat.le_of_ble_eq_true rfl, Nat.le_of_ble_eq_true rfl⟩) rfl hl.1 rfl (lv_room (Nat.le_of_ble_eq_true rfl)) dX9_byNear_95 ⟨Nat.zero_le _, Nat.zero_le _⟩ (fun r11 V9 A10 H locs hw hM hS => ?_)
      refine mo_put S hK hI hM hS 23 (by decide) q802 dX9_byNear_98 rfl rfl ⟨rfl, rfl⟩ (fun H locs hM hS => ?_)
      refine lv_aload_n hx hb dX9_byNear_101 rfl (lv_at hl 2 rfl) ?_
      refine lv_bipush (v := 34) hx hb dX9_byNear_102 (by decide) ?_
      refine lv_aload_n hx hb dX9_byNear_104 rfl (lv_at hl 2 rfl) ?_
      refine mo_geti S hK hM 23 (by decide) q802 dX9_byNear_105 rfl ?_
      refine lv_iload_n hx hb dX9_byNear_108 rfl (lv_at hl 1 rfl) ?_
      refine mo_calli (As := [.int 34, .int ((vu V9 23 r11) 23), .int r4]) S hK hM hS (m9_stateOf l g (vu V9 23 r11) A10 34 ((vu V9 23 r11) 23) r4 _ hI hw) (cwV 3 hts (lw_V q996 q998 qs27 q64 q999) rfl rfl rfl (by decide +kernel) ⟨Nat.le_of_ble_eq_true rfl, Nat.le_of_ble_eq_true rfl⟩) rfl hl.1 rfl (lv_room (Nat.le_of_ble_eq_true rfl)) dX9_byNear_109 ⟨Nat.zero_le _, Nat.zero_le _⟩ (fun r14 V12 A13 H locs hw hM hS => ?_)
      refine lv_istore_n (lv' := [(2, .int r14), (1, .int r4), (0, .ref (mh g))]) hx hb dX9_byNear_112 rfl hl (by decide) rfl (fun ls hl => ?_)
      refine lv_aload_n hx hb dX9_byNear_113 rfl (lv_at hl 2 rfl) ?_
      refine lv_iconst (v := 4) hx hb dX9_byNear_114 (by decide) ?_
      refine mo_calli (As := [.int 4]) S hK hM hS (m9_twoAt l g V12 A13 4 _ hI hw) (cwV 1 hts (lw_V q1053 q1055 qs40 q64 q1056) rfl rfl rfl (by decide +kernel) ⟨Nat.le_of_ble_eq_true rfl, Nat.le_of_ble_eq_true rfl⟩) rfl hl.1 rfl (lv_room (Nat.le_of_ble_eq_true rfl)) dX9_byNear_115 ⟨Nat.zero_le _, Nat.zero_le _⟩ (fun r17 V15 A16 H locs hw hM hS => ?_)
      refine lv_istore_n (lv' := [(3, .int r17), (2, .int r14), (1, .int r4), (0, .ref (mh g))]) hx hb dX9_byNear_118 rfl hl (by decide) rfl (fun ls hl => ?_)
      refine lv_aload_n hx hb dX9_byNear_119 rfl (lv_at hl 3 rfl) ?_
      refine lv_bipush (v := 6) hx hb dX9_byNear_120 (by decide) ?_
      refine mo_calli (As := [.int 6]) S hK hM hS (m9_twoAt l g V15 A16 6 _ hI hw) (cwV 1 hts (lw_V q1053 q1055 qs40 q64 q1056) rfl rfl rfl (by decide +kernel) ⟨Nat.le_of_ble_eq_true rfl, Nat.le_of_ble_eq_true rfl⟩) rfl hl.1 rfl (lv_room (Nat.le_of_ble_eq_true rfl)) dX9_byNear_122 ⟨Nat.zero_le _, Nat.zero_le _⟩ (fun r20 V18 A19 H locs hw hM hS => ?_)
      refine lv_aload_n hx hb dX9_byNear_125 rfl (lv_at hl 3 rfl) ?_
      refine mo_geti S hK hM 22 (by decide) q801 dX9_byNear_126 rfl ?_
      refine lv_icmp_le (tgt := 142) hx hb dX9_byNear_129 (by decide) (fun c21 => ?_) (fun c21 => ?_)
      · have hw := hw.1 c21
        exact r9_byNear_142 S hr hlocks hK hI  _ _ _ _ _ hw _ _ hM hS _ (lv_sub hl [3, 2, 1, 0] rfl)
      · have hw := hw.2 c21
        refine lv_aload_n hx hb dX9_byNear_132 rfl (lv_at hl 3 rfl) ?_
        refine lv_aload_n hx hb dX9_byNear_133 rfl (lv_at hl 3 rfl) ?_
        refine lv_bipush (v := 6) hx hb dX9_byNear_134 (by decide) ?_
        refine mo_calli (As := [.int 6]) S hK hM hS (m9_twoAt l g V18 A19 6 _ hI hw) (cwV 1 hts (lw_V q1053 q1055 qs40 q64 q1056) rfl rfl rfl (by decide +kernel) ⟨Nat.le_of_ble_eq_true rfl, Nat.le_of_ble_eq_true rfl⟩) rfl hl.1 rfl (lv_room (Nat.le_of_ble_eq_true rfl)) dX9_byNear_136 ⟨Nat.zero_le _, Nat.zero_le _⟩ (fun r48 V46 A47 H locs hw hM hS => ?_)
        refine mo_put S hK hI hM hS 22 (by decide) q801 dX9_byNear_139 rfl rfl ⟨rfl, rfl⟩ (fun H locs hM hS => ?_)
        exact r9_byNear_142 S hr hlocks hK hI  _ _ _ _ _ hw _ _ hM hS _ (lv_sub hl [3, 2, 1, 0] rfl)
    · have hw := hw.1 c8
      refine lv_aload_n hx hb dX9_byNear_47 rfl (lv_at hl 2 rfl) ?_
      refine mo_geta S hK hM 29 (by decide) q808 dX9_byNear_48 rfl ?_
      refine lv_iconst (v := 4) hx hb dX9_byNear_51 (by decide) ?_
      refine lv_dup2_11 hx hb dX9_byNear_52 rfl rfl ?_
      have hin := hw.1
      have hw := hw.2
      refine mo_ald S hK hM 29 rfl hin dX9_byNear_53 ?_
      refine lv_iconst (v := 1) hx hb dX9_byNear_54 (by decide) ?_
      refine lv_iadd hx hb dX9_byNear_55 ?_
      have hin := hw.1
      have hw := hw.2
      refine mo_ast S hK hI hM hS 29 rfl hin dX9_byNear_56 (fun H locs hM hS => ?_)
      refine lv_iload_n hx hb dX9_byNear_57 rfl (lv_at hl 1 rfl) ?_
      refine lv_aload_n hx hb dX9_byNear_58 rfl (lv_at hl 2 rfl) ?_
      refine mo_geta S hK hM 4 (by decide) q783 dX9_byNear_59 rfl ?_
      refine lv_aload_n hx hb dX9_byNear_62 rfl (lv_at hl 2 rfl) ?_
      refine mo_calli (As := []) S hK hM hS (m9_nearNewest l g V5 (au A6 29 (4 : Int32).toNatClampNeg ((A6 29 (4 : Int32).toNatClampNeg) + 1))  _ hI hw) (cwV 0 hts (lw_V q1029 q1031 qs35 q64 q1032) rfl rfl rfl (by decide +kernel) ⟨Nat.le_of_ble_eq_true rfl, Nat.le_of_ble_eq_true rfl⟩) rfl hl.1 rfl (lv_room (Nat.le_of_ble_eq_true rfl)) dX9_byNear_63 ⟨Nat.zero_le _, Nat.zero_le _⟩ (fun r51 V49 A50 H locs hw hM hS => ?_)
      have hin := hw.1
      have hw := hw.2
      refine mo_ald S hK hM 4 rfl hin dX9_byNear_66 ?_
      refine lv_icmp_ge (tgt := 75) hx hb dX9_byNear_67 (by decide) (fun c52 => ?_) (fun c52 => ?_)
      · have hw := hw.1 c52
        exact mo_vret S hr hlocks hM hS hw dX9_byNear_75
      · have hw := hw.2 c52
        refine lv_aload_n hx hb dX9_byNear_70 rfl (lv_at hl 2 rfl) ?_
        refine lv_iconst (v := 1) hx hb dX9_byNear_71 (by decide) ?_
        refine mo_put S hK hI hM hS 26 (by decide) q805 dX9_byNear_72 rfl rfl ⟨rfl, rfl⟩ (fun H locs hM hS => ?_)
        exact mo_vret S hr hlocks hM hS hw dX9_byNear_75
  · have hw := hw.2 c1
    refine lv_aload_n hx hb dX9_byNear_13 rfl (lv_at hl 0 rfl) ?_
    refine mo_geta S hK hM 29 (by decide) q808 dX9_byNear_14 rfl ?_
    refine lv_iconst (v := 2) hx hb dX9_byNear_17 (by decide) ?_
    refine lv_dup2_11 hx hb dX9_byNear_18 rfl rfl ?_
    have hin := hw.1
    have hw := hw.2
    refine mo_ald S hK hM 29 rfl hin dX9_byNear_19 ?_
    refine lv_iconst (v := 1) hx hb dX9_byNear_20 (by decide) ?_
    refine lv_iadd hx hb dX9_byNear_21 ?_
    have hin := hw.1
    have hw := hw.2
    refine mo_ast S hK hI hM hS 29 rfl hin dX9_byNear_22 (fun H locs hM hS => ?_)
    exact mo_vret S hr hlocks hM hS hw dX9_byNear_23
/-! FarTypewriterModel.taken(IZ)V -/
abbrev rm9_taken : Room := { frames := 8, cells := 0, slots := 0, locals := 175 }
def w9_taken_95 (post : VV → AA → Prop)  (V : VV) (A : AA) (x2 x4 : Int32) : Prop :=
  (x2 = 0 → post V A) ∧ (¬ x2 = 0 → vp_in 5 10 ∧ (((A 29 (5 : Int32).toNatClampNeg) ≤ x4 → post V A) ∧ (¬ (A 29 (5 : Int32).toNatClampNeg) ≤ x4 → vp_in 6 10 ∧ (vp_in 6 10 ∧ post V (au A 29 (6 : Int32).toNatClampNeg ((A 29 (6 : Int32).toNatClampNeg) + 1))))))
set_option maxHeartbeats 4000000 in
set_option maxRecDepth 100000 in
theorem r9_taken_95 {p : Program} {l : Launch} {e : Env} {s : State} {m : MethodId} {args : Array Value} {below : List Frame} {meth : Method} {c : Code} {g : MG} (S : CallFix p m c cX9_taken 5 s args lw_all RX9) (hr : meth.sig.returnType = none) (hlocks : meth.locks = false) (hK : KM g s) (hI : HI g) {post : VV → AA → Prop}  : ∀ (V : VV) (A : AA) (x2 x4 : Int32), w9_taken_95 post  V A x2 x4 → ∀ (H : Heap) (locs : List Loc), HM g V A H → va_S (HA g) s.heap H locs → ∀ (ls : Array Slot), lv_has ls 5 [(0, .ref (mh g)), (2, .int x2), (4, .int x4)] → W p l e rm9_taken s m args below meth c H locs 0 0 (MQ below (MQv g post) args s 0 0 (HA g)) (F0 m 95 ls []) := by
  have hx := S.1
  have hb := S.2.1
  have hown := S.2.2.2.1
  have hts := S.2.2.2.2
  intro V A x2 x4 hw H locs hM hS ls hl
  unfold w9_taken_95 at hw
  refine lv_iload_n hx hb dX9_taken_95 rfl (lv_at hl 1 rfl) ?_
  refine lv_if_eq (tgt := 121) hx hb dX9_taken_96 (by decide) (fun c8 => ?_) (fun c8 => ?_)
  · have hw := hw.1 c8
    exact mo_vret S hr hlocks hM hS hw dX9_taken_121
  · have hw := hw.2 c8
    refine lv_aload_n hx hb dX9_taken_99 rfl (lv_at hl 0 rfl) ?_
    refine mo_geta S hK hM 29 (by decide) q808 dX9_taken_100 rfl ?_
    refine lv_iconst (v := 5) hx hb dX9_taken_103 (by decide) ?_
    have hin := hw.1
    have hw := hw.2
    refine mo_ald S hK hM 29 rfl hin dX9_taken_104 ?_
    refine lv_iload hx hb dX9_taken_105 (lv_at hl 2 rfl) ?_
    refine lv_icmp_le (tgt := 121) hx hb dX9_taken_107 (by decide) (fun c9 => ?_) (fun c9 => ?_)
    · have hw := hw.1 c9
      exact mo_vret S hr hlocks hM hS hw dX9_taken_121
    · have hw := hw.2 c9
      refine lv_aload_n hx hb dX9_taken_110 rfl (lv_at hl 0 rfl) ?_
      refine mo_geta S hK hM 29 (by decide) q808 dX9_taken_111 rfl ?_
      refine lv_bipush (v := 6) hx hb dX9_taken_114 (by decide) ?_
      refine lv_dup2_11 hx hb dX9_taken_116 rfl rfl ?_
      have hin := hw.1
      have hw := hw.2
      refine mo_ald S hK hM 29 rfl hin dX9_taken_117 ?_
      refine lv_iconst (v := 1) hx hb dX9_taken_118 (by decide) ?_
      refine lv_iadd hx hb dX9_taken_119 ?_
      have hin := hw.1
      have hw := hw.2
      refine mo_ast S hK hI hM hS 29 rfl hin dX9_taken_120 (fun H locs hM hS => ?_)
      exact mo_vret S hr hlocks hM hS hw dX9_taken_121
def w9_taken_56 (post : VV → AA → Prop)  (V : VV) (A : AA) (x1 x2 t0 : Int32) : Prop :=
  (t0 = 0 → vp_in 3 10 ∧ (vp_in 3 10 ∧ post V (au A 29 (3 : Int32).toNatClampNeg ((A 29 (3 : Int32).toNatClampNeg) + 1)))) ∧ (¬ t0 = 0 → vp_in 5 10 ∧ (∀ y4_3 : Int32, y4_3 = A 29 (5 : Int32).toNatClampNeg → ((x1 = 0 → w9_byFar (fun (V10 : VV) (A11 : AA) => w9_taken_95 post V10 A11 x2 y4_3) V A ) ∧ (¬ x1 = 0 → w9_byNear (fun (V5 : VV) (A6 : AA) => w9_taken_95 post V5 A6 x2 y4_3) V A ))))
set_option maxHeartbeats 4000000 in
set_option maxRecDepth 100000 in
theorem r9_taken_56 {p : Program} {l : Launch} {e : Env} {s : State} {m : MethodId} {args : Array Value} {below : List Frame} {meth : Method} {c : Code} {g : MG} (S : CallFix p m c cX9_taken 5 s args lw_all RX9) (hr : meth.sig.returnType = none) (hlocks : meth.locks = false) (hK : KM g s) (hI : HI g) {post : VV → AA → Prop}  : ∀ (V : VV) (A : AA) (x1 x2 t0 : Int32), w9_taken_56 post  V A x1 x2 t0 → ∀ (H : Heap) (locs : List Loc), HM g V A H → va_S (HA g) s.heap H locs → ∀ (ls : Array Slot), lv_has ls 5 [(0, .ref (mh g)), (1, .int x1), (2, .int x2)] → W p l e rm9_taken s m args below meth c H locs 0 0 (MQ below (MQv g post) args s 0 0 (HA g)) (F0 m 56 ls [.int t0]) := by
  have hx := S.1
  have hb := S.2.1
  have hown := S.2.2.2.1
  have hts := S.2.2.2.2
  intro V A x1 x2 t0 hw H locs hM hS ls hl
  unfold w9_taken_56 at hw
  refine lv_istore_n (lv' := [(3, .int t0), (0, .ref (mh g)), (1, .int x1), (2, .int x2)]) hx hb dX9_taken_56 rfl hl (by decide) rfl (fun ls hl => ?_)
  refine lv_iload_n hx hb dX9_taken_57 rfl (lv_at hl 0 rfl) ?_
  refine lv_if_ne (tgt := 72) hx hb dX9_taken_58 (by decide) (fun c2 => ?_) (fun c2 => ?_)
  · have hw := hw.2 c2
    refine lv_aload_n hx hb dX9_taken_72 rfl (lv_at hl 1 rfl) ?_
    refine mo_geta S hK hM 29 (by decide) q808 dX9_taken_73 rfl ?_
    refine lv_iconst (v := 5) hx hb dX9_taken_76 (by decide) ?_
    have hin := hw.1
    have hw := hw.2
    refine mo_ald S hK hM 29 rfl hin dX9_taken_77 ?_
    refine lv_topi (fun y4_3 ey4_3 => ?_)
    have hw := hw y4_3 ey4_3
    refine lv_istore (lv' := [(4, .int y4_3), (3, .int t0), (0, .ref (mh g)), (1, .int x1), (2, .int x2)]) hx hb dX9_taken_78 hl (by decide) rfl (fun ls hl => ?_)
    refine lv_iload_n hx hb dX9_taken_80 rfl (lv_at hl 3 rfl) ?_
    refine lv_if_ne (tgt := 91) hx hb dX9_taken_81 (by decide) (fun c4 => ?_) (fun c4 => ?_)
    · have hw := hw.2 c4
      refine lv_aload_n hx hb dX9_taken_91 rfl (lv_at hl 2 rfl) ?_
      refine mo_callv (As := []) S hK hM hS (m9_byNear l g V A  _ hI hw) (cwV 0 hts (lw_V q1085 q1087 qs48 q64 q1088) rfl rfl rfl (by decide +kernel) ⟨Nat.le_of_ble_eq_true rfl, Nat.le_of_ble_eq_true rfl⟩) rfl hl.1 rfl (lv_room (Nat.le_of_ble_eq_true rfl)) dX9_taken_92 ⟨Nat.zero_le _, Nat.zero_le _⟩ (fun V5 A6 H locs hw hM hS => ?_)
      exact r9_taken_95 S hr hlocks hK hI  _ _ _ _ hw _ _ hM hS _ (lv_sub hl [2, 4, 0] rfl)
    · have hw := hw.1 c4
      refine lv_aload_n hx hb dX9_taken_84 rfl (lv_at hl 2 rfl) ?_
      refine mo_callv (As := []) S hK hM hS (m9_byFar l g V A  _ hI hw) (cwV 0 hts (lw_V q1057 q1059 qs41 q64 q1060) rfl rfl rfl (by decide +kernel) ⟨Nat.le_of_ble_eq_true rfl, Nat.le_of_ble_eq_true rfl⟩) rfl hl.1 rfl (lv_room (Nat.le_of_ble_eq_true rfl)) dX9_taken_85 ⟨Nat.zero_le _, Nat.zero_le _⟩ (fun V10 A11 H locs hw hM hS => ?_)
      refine lv_goto (tgt := 95) hx hb dX9_taken_88 (by decide) ?_
      exact r9_taken_95 S hr hlocks hK hI  _ _ _ _ hw _ _ hM hS _ (lv_sub hl [2, 4, 0] rfl)
  · have hw := hw.1 c2
    refine lv_aload_n hx hb dX9_taken_61 rfl (lv_at hl 1 rfl) ?_
    refine mo_geta S hK hM 29 (by decide) q808 dX9_taken_62 rfl ?_
    refine lv_iconst (v := 3) hx hb dX9_taken_65 (by decide) ?_
    refine lv_dup2_11 hx hb dX9_taken_66 rfl rfl ?_
    have hin := hw.1
    have hw := hw.2
    refine mo_ald S hK hM 29 rfl hin dX9_taken_67 ?_
    refine lv_iconst (v := 1) hx hb dX9_taken_68 (by decide) ?_
    refine lv_iadd hx hb dX9_taken_69 ?_
    have hin := hw.1
    have hw := hw.2
    refine mo_ast S hK hI hM hS 29 rfl hin dX9_taken_70 (fun H locs hM hS => ?_)
    exact mo_vret S hr hlocks hM hS hw dX9_taken_71
def w9_taken_55 (post : VV → AA → Prop)  (V : VV) (A : AA) (x1 x2 : Int32) : Prop :=
  w9_taken_56 post V A x1 x2 0
set_option maxHeartbeats 4000000 in
set_option maxRecDepth 100000 in
theorem r9_taken_55 {p : Program} {l : Launch} {e : Env} {s : State} {m : MethodId} {args : Array Value} {below : List Frame} {meth : Method} {c : Code} {g : MG} (S : CallFix p m c cX9_taken 5 s args lw_all RX9) (hr : meth.sig.returnType = none) (hlocks : meth.locks = false) (hK : KM g s) (hI : HI g) {post : VV → AA → Prop}  : ∀ (V : VV) (A : AA) (x1 x2 : Int32), w9_taken_55 post  V A x1 x2 → ∀ (H : Heap) (locs : List Loc), HM g V A H → va_S (HA g) s.heap H locs → ∀ (ls : Array Slot), lv_has ls 5 [(0, .ref (mh g)), (1, .int x1), (2, .int x2)] → W p l e rm9_taken s m args below meth c H locs 0 0 (MQ below (MQv g post) args s 0 0 (HA g)) (F0 m 55 ls []) := by
  have hx := S.1
  have hb := S.2.1
  have hown := S.2.2.2.1
  have hts := S.2.2.2.2
  intro V A x1 x2 hw H locs hM hS ls hl
  unfold w9_taken_55 at hw
  refine lv_iconst (v := 0) hx hb dX9_taken_55 (by decide) ?_
  exact r9_taken_56 S hr hlocks hK hI  _ _ _ _ _ hw _ _ hM hS _ (lv_sub hl [0, 1, 2] rfl)
def w9_taken_25 (post : VV → AA → Prop)  (V : VV) (A : AA) (x1 x2 t0 t1 : Int32) : Prop :=
  (t1 = t0 → w9_twoAt (fun (r17 : Int32) (V15 : VV) (A16 : AA) => w9_sumOf (fun (r20 : Int32) (V18 : VV) (A19 : AA) => (r17 = r20 → w9_taken_56 post V18 A19 x1 x2 1) ∧ (¬ r17 = r20 → w9_taken_55 post V18 A19 x1 x2)) V15 A16 ((V15 34) - 2)) V A ((V 34) - 2)) ∧ (¬ t1 = t0 → w9_taken_55 post V A x1 x2)
set_option maxHeartbeats 4000000 in
set_option maxRecDepth 100000 in
theorem r9_taken_25 {p : Program} {l : Launch} {e : Env} {s : State} {m : MethodId} {args : Array Value} {below : List Frame} {meth : Method} {c : Code} {g : MG} (S : CallFix p m c cX9_taken 5 s args lw_all RX9) (hr : meth.sig.returnType = none) (hlocks : meth.locks = false) (hK : KM g s) (hI : HI g) {post : VV → AA → Prop}  : ∀ (V : VV) (A : AA) (x1 x2 t0 t1 : Int32), w9_taken_25 post  V A x1 x2 t0 t1 → ∀ (H : Heap) (locs : List Loc), HM g V A H → va_S (HA g) s.heap H locs → ∀ (ls : Array Slot), lv_has ls 5 [(0, .ref (mh g)), (1, .int x1), (2, .int x2)] → W p l e rm9_taken s m args below meth c H locs 0 0 (MQ below (MQv g post) args s 0 0 (HA g)) (F0 m 25 ls [.int t0, .int t1]) := by
  have hx := S.1
  have hb := S.2.1
  have hown := S.2.2.2.1
  have hts := S.2.2.2.2
  intro V A x1 x2 t0 t1 hw H locs hM hS ls hl
  unfold w9_taken_25 at hw
  refine lv_icmp_ne (tgt := 55) hx hb dX9_taken_25 (by decide) (fun c14 => ?_) (fun c14 => ?_)
  · have hw := hw.2 c14
    exact r9_taken_55 S hr hlocks hK hI  _ _ _ _ hw _ _ hM hS _ (lv_sub hl [0, 1, 2] rfl)
  · have hw := hw.1 c14
    refine lv_aload_n hx hb dX9_taken_28 rfl (lv_at hl 0 rfl) ?_
    refine lv_aload_n hx hb dX9_taken_29 rfl (lv_at hl 0 rfl) ?_
    refine mo_geti S hK hM 34 (by decide) q813 dX9_taken_30 rfl ?_
    refine lv_iconst (v := 2) hx hb dX9_taken_33 (by decide) ?_
    refine lv_isub hx hb dX9_taken_34 ?_
    refine mo_calli (As := [.int ((V 34) - 2)]) S hK hM hS (m9_twoAt l g V A ((V 34) - 2) _ hI hw) (cwV 1 hts (lw_V q1053 q1055 qs40 q64 q1056) rfl rfl rfl (by decide +kernel) ⟨Nat.le_of_ble_eq_true rfl, Nat.le_of_ble_eq_true rfl⟩) rfl hl.1 rfl (lv_room (Nat.le_of_ble_eq_true rfl)) dX9_taken_35 ⟨Nat.zero_le _, Nat.zero_le _⟩ (fun r17 V15 A16 H locs hw hM hS => ?_)
    refine lv_aload_n hx hb dX9_taken_38 rfl (lv_at hl 0 rfl) ?_
    refine lv_aload_n hx hb dX9_taken_39 rfl (lv_at hl 0 rfl) ?_
    refine mo_geti S hK hM 34 (by decide) q813 dX9_taken_40 rfl ?_
    refine lv_iconst (v := 2) hx hb dX9_taken_43 (by decide) ?_
    refine lv_isub hx hb dX9_taken_44 ?_
    refine mo_calli (As := [.int ((V15 34) - 2)]) S hK hM hS (m9_sumOf l g V15 A16 ((V15 34) - 2) _ hI hw) (cwV 1 hts (lw_V q1020 q1022 qs33 q64 q1023) rfl rfl rfl (by decide +kernel) ⟨Nat.le_of_ble_eq_true rfl, Nat.le_of_ble_eq_true rfl⟩) rfl hl.1 rfl (lv_room (Nat.le_of_ble_eq_true rfl)) dX9_taken_45 ⟨Nat.zero_le _, Nat.zero_le _⟩ (fun r20 V18 A19 H locs hw hM hS => ?_)
    refine lv_icmp_ne (tgt := 55) hx hb dX9_taken_48 (by decide) (fun c21 => ?_) (fun c21 => ?_)
    · have hw := hw.2 c21
      exact r9_taken_55 S hr hlocks hK hI  _ _ _ _ hw _ _ hM hS _ (lv_sub hl [0, 1, 2] rfl)
    · have hw := hw.1 c21
      refine lv_iconst (v := 1) hx hb dX9_taken_51 (by decide) ?_
      refine lv_goto (tgt := 56) hx hb dX9_taken_52 (by decide) ?_
      exact r9_taken_56 S hr hlocks hK hI  _ _ _ _ _ hw _ _ hM hS _ (lv_sub hl [0, 1, 2] rfl)
def w9_taken (post : VV → AA → Prop) (V : VV) (A : AA) (x1 x2 : Int32) : Prop :=
  ((V 34) ≤ 3 → w9_taken_55 post V A x1 x2) ∧ (¬ (V 34) ≤ 3 → vp_in 0 1100 ∧ ((x1 = 0 → w9_taken_25 post V A x1 x2 75 (A 33 (0 : Int32).toNatClampNeg)) ∧ (¬ x1 = 0 → w9_taken_25 post V A x1 x2 83 (A 33 (0 : Int32).toNatClampNeg))))
set_option maxHeartbeats 4000000 in
set_option maxRecDepth 100000 in
theorem m9_taken (l : Launch) (g : MG) (V : VV) (A : AA) (x1 x2 : Int32) (post : VV → AA → Prop) (hI : HI g) (hw : w9_taken post V A x1 x2) : Met l yX9_taken (ws_ yX9_taken cX9_taken 5 none) rm9_taken (MPc g V A [.ref (mh g), .int x1, .int x2]) (MQv g post) 0 0 (HA g) := by
  refine Met.ofW (cc := cX9_taken) (maxL := 5) (ret := none) (by decide) rfl ?_
  intro p e s m args below meth c s₁ B hml hv
  obtain ⟨rfl, hK, hM⟩ := hv
  have hx := B.exec
  have hb := B.bytes
  have hr : meth.sig.returnType = none := B.returns
  have hts := atoms_spec (ws := ws_ yX9_taken cX9_taken 5 none) B.pre
  have hts : ∀ w ∈ lw_all, w.before _ s = true := fun w h => hts w (List.mem_cons_of_mem _ h)
  have hown : s.vm.findClass RX9 = some m.cls := findClass_of_methodNamed B.named
  have hlocks : meth.locks = false := B.notSynchronized
  have S : CallFix p m c cX9_taken 5 s _ lw_all RX9 := ⟨hx, hb, hml, hown, hts⟩
  have hS : va_S (HA g) s.heap s.heap [] := va_S.rf
  have hl := lv_entry ([.ref (mh g), .int x1, .int x2]) (n := 5) (Nat.le_of_ble_eq_true rfl)
  rw [lg_entry_eq]
  generalize (lg_sl ([.ref (mh g), .int x1, .int x2]) ++ List.replicate (5 - (lg_sl ([.ref (mh g), .int x1, .int x2])).length) Slot.unset).toArray = ls at hl ⊢
  have hl : lv_has ls 5 [(0, .ref (mh g)), (1, .int x1), (2, .int x2)] := hl
  unfold w9_taken at hw
  refine lv_aload_n hx hb dX9_taken_0 rfl (lv_at hl 0 rfl) ?_
  refine mo_geti S hK hM 34 (by decide) q813 dX9_taken_1 rfl ?_
  refine lv_iconst (v := 3) hx hb dX9_taken_4 (by decide) ?_
  refine lv_icmp_le (tgt := 55) hx hb dX9_taken_5 (by decide) (fun c1 => ?_) (fun c1 => ?_)
  · have hw := hw.1 c1
    exact r9_taken_55 S hr hlocks hK hI  _ _ _ _ hw _ _ hM hS _ (lv_sub hl [0, 1, 2] rfl)
  · have hw := hw.2 c1
    refine lv_aload_n hx hb dX9_taken_8 rfl (lv_at hl 0 rfl) ?_
    refine mo_geta S hK hM 33 (by decide) q812 dX9_taken_9 rfl ?_
    refine lv_iconst (v := 0) hx hb dX9_taken_12 (by decide) ?_
    have hin := hw.1
    have hw := hw.2
    refine mo_ald S hK hM 33 rfl hin dX9_taken_13 ?_
    refine lv_iload_n hx hb dX9_taken_14 rfl (lv_at hl 1 rfl) ?_
    refine lv_if_ne (tgt := 23) hx hb dX9_taken_15 (by decide) (fun c13 => ?_) (fun c13 => ?_)
    · have hw := hw.2 c13
      refine lv_bipush (v := 83) hx hb dX9_taken_23 (by decide) ?_
      exact r9_taken_25 S hr hlocks hK hI  _ _ _ _ _ _ hw _ _ hM hS _ (lv_sub hl [0, 1, 2] rfl)
    · have hw := hw.1 c13
      refine lv_bipush (v := 75) hx hb dX9_taken_18 (by decide) ?_
      refine lv_goto (tgt := 25) hx hb dX9_taken_20 (by decide) ?_
      exact r9_taken_25 S hr hlocks hK hI  _ _ _ _ _ _ hw _ _ hM hS _ (lv_sub hl [0, 1, 2] rfl)
/-! FarTypewriterModel.carry(IIII)I -/
abbrev rm9_carry : Room := { frames := 9, cells := 0, slots := 0, locals := 199 }
def w9_carry_135 (post : Int32 → VV → AA → Prop)  (V : VV) (A : AA) (x1 x5 : Int32) : Prop :=
  w9_taken (fun (V15 : VV) (A16 : AA) => vp_in x1 2 ∧ post (A16 30 x1.toNatClampNeg) V15 A16) V A x1 x5
set_option maxHeartbeats 4000000 in
set_option maxRecDepth 100000 in
theorem r9_carry_135 {p : Program} {l : Launch} {e : Env} {s : State} {m : MethodId} {args : Array Value} {below : List Frame} {meth : Method} {c : Code} {g : MG} (S : CallFix p m c cX9_carry 6 s args lw_all RX9) (hr : meth.sig.returnType = (some .int)) (hlocks : meth.locks = false) (hK : KM g s) (hI : HI g) {post : Int32 → VV → AA → Prop}  : ∀ (V : VV) (A : AA) (x1 x5 : Int32), w9_carry_135 post  V A x1 x5 → ∀ (H : Heap) (locs : List Loc), HM g V A H → va_S (HA g) s.heap H locs → ∀ (ls : Array Slot), lv_has ls 6 [(0, .ref (mh g)), (1, .int x1), (5, .int x5)] → W p l e rm9_carry s m args below meth c H locs 0 0 (MQ below (MQi g post) args s 0 0 (HA g)) (F0 m 135 ls []) := by
  have hx := S.1
  have hb := S.2.1
  have hown := S.2.2.2.1
  have hts := S.2.2.2.2
  intro V A x1 x5 hw H locs hM hS ls hl
  unfold w9_carry_135 at hw
  refine lv_aload_n hx hb dX9_carry_135 rfl (lv_at hl 0 rfl) ?_
  refine lv_iload_n hx hb dX9_carry_136 rfl (lv_at hl 1 rfl) ?_
  refine lv_iload hx hb dX9_carry_137 (lv_at hl 2 rfl) ?_
  refine mo_callv (As := [.int x1, .int x5]) S hK hM hS (m9_taken l g V A x1 x5 _ hI hw) (cwV 2 hts (lw_V q1049 q1051 qs39 q64 q1052) rfl rfl rfl (by decide +kernel) ⟨Nat.le_of_ble_eq_true rfl, Nat.le_of_ble_eq_true rfl⟩) rfl hl.1 rfl (lv_room (Nat.le_of_ble_eq_true rfl)) dX9_carry_139 ⟨Nat.zero_le _, Nat.zero_le _⟩ (fun V15 A16 H locs hw hM hS => ?_)
  refine lv_aload_n hx hb dX9_carry_142 rfl (lv_at hl 0 rfl) ?_
  refine mo_geta S hK hM 30 (by decide) q809 dX9_carry_143 rfl ?_
  refine lv_iload_n hx hb dX9_carry_146 rfl (lv_at hl 1 rfl) ?_
  have hin := hw.1
  have hw := hw.2
  refine mo_ald S hK hM 30 rfl hin dX9_carry_147 ?_
  exact mo_iret S hr hlocks hM hS hw dX9_carry_148
def w9_carry_108 (post : Int32 → VV → AA → Prop)  (V : VV) (A : AA) (x1 x3 x4 t0 : Int32) : Prop :=
  (x3 = 3 → vp_in (x4 / 256) 1100 ∧ (vp_in (x4 / 256) 1100 ∧ w9_carry_135 post V (au A 33 (x4 / 256).toNatClampNeg ((A 33 (x4 / 256).toNatClampNeg) ^^^ (x4 - x4 / 256 * 256))) x1 t0)) ∧ (¬ x3 = 3 → w9_carry_135 post V A x1 t0)
set_option maxHeartbeats 4000000 in
set_option maxRecDepth 100000 in
theorem r9_carry_108 {p : Program} {l : Launch} {e : Env} {s : State} {m : MethodId} {args : Array Value} {below : List Frame} {meth : Method} {c : Code} {g : MG} (S : CallFix p m c cX9_carry 6 s args lw_all RX9) (hr : meth.sig.returnType = (some .int)) (hlocks : meth.locks = false) (hK : KM g s) (hI : HI g) {post : Int32 → VV → AA → Prop}  : ∀ (V : VV) (A : AA) (x1 x3 x4 t0 : Int32), w9_carry_108 post  V A x1 x3 x4 t0 → ∀ (H : Heap) (locs : List Loc), HM g V A H → va_S (HA g) s.heap H locs → ∀ (ls : Array Slot), lv_has ls 6 [(0, .ref (mh g)), (1, .int x1), (3, .int x3), (4, .int x4)] → W p l e rm9_carry s m args below meth c H locs 0 0 (MQ below (MQi g post) args s 0 0 (HA g)) (F0 m 108 ls [.int t0]) := by
  have hx := S.1
  have hb := S.2.1
  have hown := S.2.2.2.1
  have hts := S.2.2.2.2
  intro V A x1 x3 x4 t0 hw H locs hM hS ls hl
  unfold w9_carry_108 at hw
  refine lv_istore (lv' := [(5, .int t0), (0, .ref (mh g)), (1, .int x1), (3, .int x3), (4, .int x4)]) hx hb dX9_carry_108 hl (by decide) rfl (fun ls hl => ?_)
  refine lv_iload_n hx hb dX9_carry_110 rfl (lv_at hl 3 rfl) ?_
  refine lv_iconst (v := 3) hx hb dX9_carry_111 (by decide) ?_
  refine lv_icmp_ne (tgt := 135) hx hb dX9_carry_112 (by decide) (fun c14 => ?_) (fun c14 => ?_)
  · have hw := hw.2 c14
    exact r9_carry_135 S hr hlocks hK hI  _ _ _ _ hw _ _ hM hS _ (lv_sub hl [1, 2, 0] rfl)
  · have hw := hw.1 c14
    refine lv_aload_n hx hb dX9_carry_115 rfl (lv_at hl 1 rfl) ?_
    refine mo_geta S hK hM 33 (by decide) q812 dX9_carry_116 rfl ?_
    refine lv_iload hx hb dX9_carry_119 (lv_at hl 4 rfl) ?_
    refine lv_sipush (v := 256) hx hb dX9_carry_121 (by decide) ?_
    refine lv_idiv hx hb dX9_carry_124 (by decide) ?_
    refine lv_dup2_11 hx hb dX9_carry_125 rfl rfl ?_
    have hin := hw.1
    have hw := hw.2
    refine mo_ald S hK hM 33 rfl hin dX9_carry_126 ?_
    refine lv_iload hx hb dX9_carry_127 (lv_at hl 4 rfl) ?_
    refine lv_sipush (v := 256) hx hb dX9_carry_129 (by decide) ?_
    refine lv_irem hx hb dX9_carry_132 (by decide) ?_
    refine lv_ixor hx hb dX9_carry_133 ?_
    have hin := hw.1
    have hw := hw.2
    refine mo_ast S hK hI hM hS 33 rfl hin dX9_carry_134 (fun H locs hM hS => ?_)
    exact r9_carry_135 S hr hlocks hK hI  _ _ _ _ hw _ _ hM hS _ (lv_sub hl [1, 2, 0] rfl)
def w9_carry_107 (post : Int32 → VV → AA → Prop)  (V : VV) (A : AA) (x1 x3 x4 : Int32) : Prop :=
  w9_carry_108 post V A x1 x3 x4 0
set_option maxHeartbeats 4000000 in
set_option maxRecDepth 100000 in
theorem r9_carry_107 {p : Program} {l : Launch} {e : Env} {s : State} {m : MethodId} {args : Array Value} {below : List Frame} {meth : Method} {c : Code} {g : MG} (S : CallFix p m c cX9_carry 6 s args lw_all RX9) (hr : meth.sig.returnType = (some .int)) (hlocks : meth.locks = false) (hK : KM g s) (hI : HI g) {post : Int32 → VV → AA → Prop}  : ∀ (V : VV) (A : AA) (x1 x3 x4 : Int32), w9_carry_107 post  V A x1 x3 x4 → ∀ (H : Heap) (locs : List Loc), HM g V A H → va_S (HA g) s.heap H locs → ∀ (ls : Array Slot), lv_has ls 6 [(0, .ref (mh g)), (1, .int x1), (3, .int x3), (4, .int x4)] → W p l e rm9_carry s m args below meth c H locs 0 0 (MQ below (MQi g post) args s 0 0 (HA g)) (F0 m 107 ls []) := by
  have hx := S.1
  have hb := S.2.1
  have hown := S.2.2.2.1
  have hts := S.2.2.2.2
  intro V A x1 x3 x4 hw H locs hM hS ls hl
  unfold w9_carry_107 at hw
  refine lv_iconst (v := 0) hx hb dX9_carry_107 (by decide) ?_
  exact r9_carry_108 S hr hlocks hK hI  _ _ _ _ _ _ hw _ _ hM hS _ (lv_sub hl [0, 1, 2, 3] rfl)
def w9_carry_67 (post : Int32 → VV → AA → Prop)  (V : VV) (A : AA) (x1 x3 x4 : Int32) : Prop :=
  (x3 = 1 → vp_in 2 10 ∧ (vp_in 2 10 ∧ (vp_in x1 2 ∧ post ((au A 29 (2 : Int32).toNatClampNeg ((A 29 (2 : Int32).toNatClampNeg) + 1)) 30 x1.toNatClampNeg) V (au A 29 (2 : Int32).toNatClampNeg ((A 29 (2 : Int32).toNatClampNeg) + 1))))) ∧ (¬ x3 = 1 → (x3 = 3 → ((x4 - x4 / 256 * 256) = 0 → w9_carry_107 post V A x1 x3 x4) ∧ (¬ (x4 - x4 / 256 * 256) = 0 → w9_carry_108 post V A x1 x3 x4 1)) ∧ (¬ x3 = 3 → w9_carry_107 post V A x1 x3 x4))
set_option maxHeartbeats 4000000 in
set_option maxRecDepth 100000 in
theorem r9_carry_67 {p : Program} {l : Launch} {e : Env} {s : State} {m : MethodId} {args : Array Value} {below : List Frame} {meth : Method} {c : Code} {g : MG} (S : CallFix p m c cX9_carry 6 s args lw_all RX9) (hr : meth.sig.returnType = (some .int)) (hlocks : meth.locks = false) (hK : KM g s) (hI : HI g) {post : Int32 → VV → AA → Prop}  : ∀ (V : VV) (A : AA) (x1 x3 x4 : Int32), w9_carry_67 post  V A x1 x3 x4 → ∀ (H : Heap) (locs : List Loc), HM g V A H → va_S (HA g) s.heap H locs → ∀ (ls : Array Slot), lv_has ls 6 [(0, .ref (mh g)), (1, .int x1), (3, .int x3), (4, .int x4)] → W p l e rm9_carry s m args below meth c H locs 0 0 (MQ below (MQi g post) args s 0 0 (HA g)) (F0 m 67 ls []) := by
  have hx := S.1
  have hb := S.2.1
  have hown := S.2.2.2.1
  have hts := S.2.2.2.2
  intro V A x1 x3 x4 hw H locs hM hS ls hl
  unfold w9_carry_67 at hw
  refine lv_iload_n hx hb dX9_carry_67 rfl (lv_at hl 2 rfl) ?_
  refine lv_iconst (v := 1) hx hb dX9_carry_68 (by decide) ?_
  refine lv_icmp_ne (tgt := 89) hx hb dX9_carry_69 (by decide) (fun c12 => ?_) (fun c12 => ?_)
  · have hw := hw.2 c12
    refine lv_iload_n hx hb dX9_carry_89 rfl (lv_at hl 2 rfl) ?_
    refine lv_iconst (v := 3) hx hb dX9_carry_90 (by decide) ?_
    refine lv_icmp_ne (tgt := 107) hx hb dX9_carry_91 (by decide) (fun c13 => ?_) (fun c13 => ?_)
    · have hw := hw.2 c13
      exact r9_carry_107 S hr hlocks hK hI  _ _ _ _ _ hw _ _ hM hS _ (lv_sub hl [0, 1, 2, 3] rfl)
    · have hw := hw.1 c13
      refine lv_iload hx hb dX9_carry_94 (lv_at hl 3 rfl) ?_
      refine lv_sipush (v := 256) hx hb dX9_carry_96 (by decide) ?_
      refine lv_irem hx hb dX9_carry_99 (by decide) ?_
      refine lv_if_eq (tgt := 107) hx hb dX9_carry_100 (by decide) (fun c18 => ?_) (fun c18 => ?_)
      · have hw := hw.1 c18
        exact r9_carry_107 S hr hlocks hK hI  _ _ _ _ _ hw _ _ hM hS _ (lv_sub hl [0, 1, 2, 3] rfl)
      · have hw := hw.2 c18
        refine lv_iconst (v := 1) hx hb dX9_carry_103 (by decide) ?_
        refine lv_goto (tgt := 108) hx hb dX9_carry_104 (by decide) ?_
        exact r9_carry_108 S hr hlocks hK hI  _ _ _ _ _ _ hw _ _ hM hS _ (lv_sub hl [0, 1, 2, 3] rfl)
  · have hw := hw.1 c12
    refine lv_aload_n hx hb dX9_carry_72 rfl (lv_at hl 0 rfl) ?_
    refine mo_geta S hK hM 29 (by decide) q808 dX9_carry_73 rfl ?_
    refine lv_iconst (v := 2) hx hb dX9_carry_76 (by decide) ?_
    refine lv_dup2_11 hx hb dX9_carry_77 rfl rfl ?_
    have hin := hw.1
    have hw := hw.2
    refine mo_ald S hK hM 29 rfl hin dX9_carry_78 ?_
    refine lv_iconst (v := 1) hx hb dX9_carry_79 (by decide) ?_
    refine lv_iadd hx hb dX9_carry_80 ?_
    have hin := hw.1
    have hw := hw.2
    refine mo_ast S hK hI hM hS 29 rfl hin dX9_carry_81 (fun H locs hM hS => ?_)
    refine lv_aload_n hx hb dX9_carry_82 rfl (lv_at hl 0 rfl) ?_
    refine mo_geta S hK hM 30 (by decide) q809 dX9_carry_83 rfl ?_
    refine lv_iload_n hx hb dX9_carry_86 rfl (lv_at hl 1 rfl) ?_
    have hin := hw.1
    have hw := hw.2
    refine mo_ald S hK hM 30 rfl hin dX9_carry_87 ?_
    exact mo_iret S hr hlocks hM hS hw dX9_carry_88
def w9_carry_50 (post : Int32 → VV → AA → Prop)  (V : VV) (A : AA) (x1 x2 x3 x4 : Int32) : Prop :=
  w9_takesHand (fun (V8 : VV) (A9 : AA) => (x3 = 2 → w9_carry_67 post V8 A9 x1 x3 x4) ∧ (¬ x3 = 2 → w9_drops (fun (V19 : VV) (A20 : AA) => w9_carry_67 post V19 A20 x1 x3 x4) V8 A9 x1 x2)) V A x1 x2
set_option maxHeartbeats 4000000 in
set_option maxRecDepth 100000 in
theorem r9_carry_50 {p : Program} {l : Launch} {e : Env} {s : State} {m : MethodId} {args : Array Value} {below : List Frame} {meth : Method} {c : Code} {g : MG} (S : CallFix p m c cX9_carry 6 s args lw_all RX9) (hr : meth.sig.returnType = (some .int)) (hlocks : meth.locks = false) (hK : KM g s) (hI : HI g) {post : Int32 → VV → AA → Prop}  : ∀ (V : VV) (A : AA) (x1 x2 x3 x4 : Int32), w9_carry_50 post  V A x1 x2 x3 x4 → ∀ (H : Heap) (locs : List Loc), HM g V A H → va_S (HA g) s.heap H locs → ∀ (ls : Array Slot), lv_has ls 6 [(0, .ref (mh g)), (1, .int x1), (2, .int x2), (3, .int x3), (4, .int x4)] → W p l e rm9_carry s m args below meth c H locs 0 0 (MQ below (MQi g post) args s 0 0 (HA g)) (F0 m 50 ls []) := by
  have hx := S.1
  have hb := S.2.1
  have hown := S.2.2.2.1
  have hts := S.2.2.2.2
  intro V A x1 x2 x3 x4 hw H locs hM hS ls hl
  unfold w9_carry_50 at hw
  refine lv_aload_n hx hb dX9_carry_50 rfl (lv_at hl 0 rfl) ?_
  refine lv_iload_n hx hb dX9_carry_51 rfl (lv_at hl 1 rfl) ?_
  refine lv_iload_n hx hb dX9_carry_52 rfl (lv_at hl 2 rfl) ?_
  refine mo_callv (As := [.int x1, .int x2]) S hK hM hS (m9_takesHand l g V A x1 x2 _ hI hw) (cwV 2 hts (lw_V q1041 q1043 qs37 q64 q1044) rfl rfl rfl (by decide +kernel) ⟨Nat.le_of_ble_eq_true rfl, Nat.le_of_ble_eq_true rfl⟩) rfl hl.1 rfl (lv_room (Nat.le_of_ble_eq_true rfl)) dX9_carry_53 ⟨Nat.zero_le _, Nat.zero_le _⟩ (fun V8 A9 H locs hw hM hS => ?_)
  refine lv_iload_n hx hb dX9_carry_56 rfl (lv_at hl 3 rfl) ?_
  refine lv_iconst (v := 2) hx hb dX9_carry_57 (by decide) ?_
  refine lv_icmp_eq (tgt := 67) hx hb dX9_carry_58 (by decide) (fun c11 => ?_) (fun c11 => ?_)
  · have hw := hw.1 c11
    exact r9_carry_67 S hr hlocks hK hI  _ _ _ _ _ hw _ _ hM hS _ (lv_sub hl [0, 1, 3, 4] rfl)
  · have hw := hw.2 c11
    refine lv_aload_n hx hb dX9_carry_61 rfl (lv_at hl 0 rfl) ?_
    refine lv_iload_n hx hb dX9_carry_62 rfl (lv_at hl 1 rfl) ?_
    refine lv_iload_n hx hb dX9_carry_63 rfl (lv_at hl 2 rfl) ?_
    refine mo_callv (As := [.int x1, .int x2]) S hK hM hS (m9_drops l g V8 A9 x1 x2 _ hI hw) (cwV 2 hts (lw_V q1045 q1047 qs38 q64 q1048) rfl rfl rfl (by decide +kernel) ⟨Nat.le_of_ble_eq_true rfl, Nat.le_of_ble_eq_true rfl⟩) rfl hl.1 rfl (lv_room (Nat.le_of_ble_eq_true rfl)) dX9_carry_64 ⟨Nat.zero_le _, Nat.zero_le _⟩ (fun V19 A20 H locs hw hM hS => ?_)
    exact r9_carry_67 S hr hlocks hK hI  _ _ _ _ _ hw _ _ hM hS _ (lv_sub hl [0, 1, 3, 4] rfl)
def w9_carry (post : Int32 → VV → AA → Prop) (V : VV) (A : AA) (x1 x2 x3 x4 : Int32) : Prop :=
  w9_isLetterOf (fun (r3 : Int32) (V1 : VV) (A2 : AA) => (r3 = 0 → post (-1) V1 A2) ∧ (¬ r3 = 0 → (x3 < 0 → post (-1) V1 A2) ∧ (¬ x3 < 0 → (3 < x3 → post (-1) V1 A2) ∧ (¬ 3 < x3 → (x3 = 3 → (x4 < 0 → post (-1) V1 A2) ∧ (¬ x4 < 0 → vp_in ((40 * x1) + x2) 80 ∧ (((x4 / 256) < (A2 32 ((40 * x1) + x2).toNatClampNeg) → w9_carry_50 post V1 A2 x1 x2 x3 x4) ∧ (¬ (x4 / 256) < (A2 32 ((40 * x1) + x2).toNatClampNeg) → post (-1) V1 A2)))) ∧ (¬ x3 = 3 → w9_carry_50 post V1 A2 x1 x2 x3 x4))))) V A x1 x2
set_option maxHeartbeats 4000000 in
set_option maxRecDepth 100000 in
theorem m9_carry (l : Launch) (g : MG) (V : VV) (A : AA) (x1 x2 x3 x4 : Int32) (post : Int32 → VV → AA → Prop) (hI : HI g) (hw : w9_carry post V A x1 x2 x3 x4) : Met l yX9_carry (ws_ yX9_carry cX9_carry 6 (some .int)) rm9_carry (MPc g V A [.ref (mh g), .int x1, .int x2, .int x3, .int x4]) (MQi g post) 0 0 (HA g) := by
  refine Met.ofW (cc := cX9_carry) (maxL := 6) (ret := (some .int)) (by decide) rfl ?_
  intro p e s m args below meth c s₁ B hml hv
  obtain ⟨rfl, hK, hM⟩ := hv
  have hx := B.exec
  have hb := B.bytes
  have hr : meth.sig.returnType = (some .int) := B.returns
  have hts := atoms_spec (ws := ws_ yX9_carry cX9_carry 6 (some .int)) B.pre
  have hts : ∀ w ∈ lw_all, w.before _ s = true := fun w h => hts w (List.mem_cons_of_mem _ h)
  have hown : s.vm.findClass RX9 = some m.cls := findClass_of_methodNamed B.named
  have hlocks : meth.locks = false := B.notSynchronized
  have S : CallFix p m c cX9_carry 6 s _ lw_all RX9 := ⟨hx, hb, hml, hown, hts⟩
  have hS : va_S (HA g) s.heap s.heap [] := va_S.rf
  have hl := lv_entry ([.ref (mh g), .int x1, .int x2, .int x3, .int x4]) (n := 6) (Nat.le_of_ble_eq_true rfl)
  rw [lg_entry_eq]
  generalize (lg_sl ([.ref (mh g), .int x1, .int x2, .int x3, .int x4]) ++ List.replicate (6 - (lg_sl ([.ref (mh g), .int x1, .int x2, .int x3, .int x4])).length) Slot.unset).toArray = ls at hl ⊢
  have hl : lv_has ls 6 [(0, .ref (mh g)), (1, .int x1), (2, .int x2), (3, .int x3), (4, .int x4)] := hl
  unfold w9_carry at hw
  refine lv_aload_n hx hb dX9_carry_0 rfl (lv_at hl 0 rfl) ?_
  refine lv_iload_n hx hb dX9_carry_1 rfl (lv_at hl 1 rfl) ?_
  refine lv_iload_n hx hb dX9_carry_2 rfl (lv_at hl 2 rfl) ?_
  refine mo_calli (As := [.int x1, .int x2]) S hK hM hS (m9_isLetterOf l g V A x1 x2 _ hI hw) (cwV 2 hts (lw_V q1037 q1039 qs36 q64 q1040) rfl rfl rfl (by decide +kernel) ⟨Nat.le_of_ble_eq_true rfl, Nat.le_of_ble_eq_true rfl⟩) rfl hl.1 rfl (lv_room (Nat.le_of_ble_eq_true rfl)) dX9_carry_3 ⟨Nat.zero_le _, Nat.zero_le _⟩ (fun r3 V1 A2 H locs hw hM hS => ?_)
  refine lv_if_eq (tgt := 48) hx hb dX9_carry_6 (by decide) (fun c4 => ?_) (fun c4 => ?_)
  · have hw := hw.1 c4
    refine lv_iconst (v := (-1)) hx hb dX9_carry_48 (by decide) ?_
    exact mo_iret S hr hlocks hM hS hw dX9_carry_49
  · have hw := hw.2 c4
    refine lv_iload_n hx hb dX9_carry_9 rfl (lv_at hl 3 rfl) ?_
    refine lv_if_lt (tgt := 48) hx hb dX9_carry_10 (by decide) (fun c5 => ?_) (fun c5 => ?_)
    · have hw := hw.1 c5
      refine lv_iconst (v := (-1)) hx hb dX9_carry_48 (by decide) ?_
      exact mo_iret S hr hlocks hM hS hw dX9_carry_49
    · have hw := hw.2 c5
      refine lv_iload_n hx hb dX9_carry_13 rfl (lv_at hl 3 rfl) ?_
      refine lv_iconst (v := 3) hx hb dX9_carry_14 (by decide) ?_
      refine lv_icmp_gt (tgt := 48) hx hb dX9_carry_15 (by decide) (fun c6 => ?_) (fun c6 => ?_)
      · have hw := hw.1 c6
        refine lv_iconst (v := (-1)) hx hb dX9_carry_48 (by decide) ?_
        exact mo_iret S hr hlocks hM hS hw dX9_carry_49
      · have hw := hw.2 c6
        refine lv_iload_n hx hb dX9_carry_18 rfl (lv_at hl 3 rfl) ?_
        refine lv_iconst (v := 3) hx hb dX9_carry_19 (by decide) ?_
        refine lv_icmp_ne (tgt := 50) hx hb dX9_carry_20 (by decide) (fun c7 => ?_) (fun c7 => ?_)
        · have hw := hw.2 c7
          exact r9_carry_50 S hr hlocks hK hI  _ _ _ _ _ _ hw _ _ hM hS _ (lv_sub hl [0, 1, 2, 3, 4] rfl)
        · have hw := hw.1 c7
          refine lv_iload hx hb dX9_carry_23 (lv_at hl 4 rfl) ?_
          refine lv_if_lt (tgt := 48) hx hb dX9_carry_25 (by decide) (fun c22 => ?_) (fun c22 => ?_)
          · have hw := hw.1 c22
            refine lv_iconst (v := (-1)) hx hb dX9_carry_48 (by decide) ?_
            exact mo_iret S hr hlocks hM hS hw dX9_carry_49
          · have hw := hw.2 c22
            refine lv_iload hx hb dX9_carry_28 (lv_at hl 4 rfl) ?_
            refine lv_sipush (v := 256) hx hb dX9_carry_30 (by decide) ?_
            refine lv_idiv hx hb dX9_carry_33 (by decide) ?_
            refine lv_aload_n hx hb dX9_carry_34 rfl (lv_at hl 0 rfl) ?_
            refine mo_geta S hK hM 32 (by decide) q811 dX9_carry_35 rfl ?_
            refine lv_bipush (v := 40) hx hb dX9_carry_38 (by decide) ?_
            refine lv_iload_n hx hb dX9_carry_40 rfl (lv_at hl 1 rfl) ?_
            refine lv_imul hx hb dX9_carry_41 ?_
            refine lv_iload_n hx hb dX9_carry_42 rfl (lv_at hl 2 rfl) ?_
            refine lv_iadd hx hb dX9_carry_43 ?_
            have hin := hw.1
            have hw := hw.2
            refine mo_ald S hK hM 32 rfl hin dX9_carry_44 ?_
            refine lv_icmp_lt (tgt := 50) hx hb dX9_carry_45 (by decide) (fun c23 => ?_) (fun c23 => ?_)
            · have hw := hw.1 c23
              exact r9_carry_50 S hr hlocks hK hI  _ _ _ _ _ _ hw _ _ hM hS _ (lv_sub hl [0, 1, 2, 3, 4] rfl)
            · have hw := hw.2 c23
              refine lv_iconst (v := (-1)) hx hb dX9_carry_48 (by decide) ?_
              exact mo_iret S hr hlocks hM hS hw dX9_carry_49
/-! FarTypewriterModel.round()I -/
abbrev rm9_round : Room := { frames := 9, cells := 0, slots := 0, locals := 199 }
def b9_round_14 (post : Int32 → VV → AA → Prop) (k47 : VV → AA → Int32 → Int32 → Prop) (kb : VV → AA → Int32 → Int32 → Prop) (V : VV) (A : AA) (x1 x2 : Int32) : Prop :=
  vp_in x2 2 ∧ (((A 30 x2.toNatClampNeg) ≤ 0 → k47 V A x1 x2) ∧ (¬ (A 30 x2.toNatClampNeg) ≤ 0 → w9_takesHand (fun (V6 : VV) (A7 : AA) => w9_drops (fun (V9 : VV) (A10 : AA) => w9_taken (fun (V12 : VV) (A13 : AA) => kb V12 A13 (x1 + 1) x2) V9 A10 x2 0) V6 A7 x2 0) V A x2 0))
def w9_round_14 (post : Int32 → VV → AA → Prop) (k47 : VV → AA → Int32 → Int32 → Prop) : Nat → VV → AA → Int32 → Int32 → Prop
  | 0 => fun _ _ _ _ => False
  | n + 1 => b9_round_14 post k47 (w9_round_14 post k47 n)
set_option maxHeartbeats 4000000 in
set_option maxRecDepth 100000 in
theorem r9_round_14 {p : Program} {l : Launch} {e : Env} {s : State} {m : MethodId} {args : Array Value} {below : List Frame} {meth : Method} {c : Code} {g : MG} (S : CallFix p m c cX9_round 3 s args lw_all RX9) (hr : meth.sig.returnType = (some .int)) (hlocks : meth.locks = false) (hK : KM g s) (hI : HI g) {post : Int32 → VV → AA → Prop} {k47 : VV → AA → Int32 → Int32 → Prop} (hk47 : ∀ (V : VV) (A : AA) (x1 x2 : Int32), k47 V A x1 x2 → ∀ (H : Heap) (locs : List Loc), HM g V A H → va_S (HA g) s.heap H locs → ∀ (ls : Array Slot), lv_has ls 3 [(0, .ref (mh g)), (1, .int x1), (2, .int x2)] → W p l e rm9_round s m args below meth c H locs 0 0 (MQ below (MQi g post) args s 0 0 (HA g)) (F0 m 47 ls [])) : ∀ n : Nat, ∀ (V : VV) (A : AA) (x1 x2 : Int32), w9_round_14 post k47 n V A x1 x2 → ∀ (H : Heap) (locs : List Loc), HM g V A H → va_S (HA g) s.heap H locs → ∀ (ls : Array Slot), lv_has ls 3 [(0, .ref (mh g)), (1, .int x1), (2, .int x2)] → W p l e rm9_round s m args below meth c H locs 0 0 (MQ below (MQi g post) args s 0 0 (HA g)) (F0 m 14 ls []) := by
  have hx := S.1
  have hb := S.2.1
  have hown := S.2.2.2.1
  have hts := S.2.2.2.2
  intro n
  induction n with
  | zero =>
    intro V A x1 x2 hw
    exact hw.elim
  | succ n hkb =>
    intro V A x1 x2 hw H locs hM hS ls hl
    unfold w9_round_14 b9_round_14 at hw
    refine lv_aload_n hx hb dX9_round_14 rfl (lv_at hl 0 rfl) ?_
    refine mo_geta S hK hM 30 (by decide) q809 dX9_round_15 rfl ?_
    refine lv_iload_n hx hb dX9_round_18 rfl (lv_at hl 2 rfl) ?_
    have hin := hw.1
    have hw := hw.2
    refine mo_ald S hK hM 30 rfl hin dX9_round_19 ?_
    refine lv_if_le (tgt := 47) hx hb dX9_round_20 (by decide) (fun c5 => ?_) (fun c5 => ?_)
    · have hw := hw.1 c5
      exact hk47 _ _ _ _ hw _ _ hM hS _ (lv_sub hl [0, 1, 2] rfl)
    · have hw := hw.2 c5
      refine lv_aload_n hx hb dX9_round_23 rfl (lv_at hl 0 rfl) ?_
      refine lv_iload_n hx hb dX9_round_24 rfl (lv_at hl 2 rfl) ?_
      refine lv_iconst (v := 0) hx hb dX9_round_25 (by decide) ?_
      refine mo_callv (As := [.int x2, .int 0]) S hK hM hS (m9_takesHand l g V A x2 0 _ hI hw) (cwV 2 hts (lw_V q1041 q1043 qs37 q64 q1044) rfl rfl rfl (by decide +kernel) ⟨Nat.le_of_ble_eq_true rfl, Nat.le_of_ble_eq_true rfl⟩) rfl hl.1 rfl (lv_room (Nat.le_of_ble_eq_true rfl)) dX9_round_26 ⟨Nat.zero_le _, Nat.zero_le _⟩ (fun V6 A7 H locs hw hM hS => ?_)
      refine lv_aload_n hx hb dX9_round_29 rfl (lv_at hl 0 rfl) ?_
      refine lv_iload_n hx hb dX9_round_30 rfl (lv_at hl 2 rfl) ?_
      refine lv_iconst (v := 0) hx hb dX9_round_31 (by decide) ?_
      refine mo_callv (As := [.int x2, .int 0]) S hK hM hS (m9_drops l g V6 A7 x2 0 _ hI hw) (cwV 2 hts (lw_V q1045 q1047 qs38 q64 q1048) rfl rfl rfl (by decide +kernel) ⟨Nat.le_of_ble_eq_true rfl, Nat.le_of_ble_eq_true rfl⟩) rfl hl.1 rfl (lv_room (Nat.le_of_ble_eq_true rfl)) dX9_round_32 ⟨Nat.zero_le _, Nat.zero_le _⟩ (fun V9 A10 H locs hw hM hS => ?_)
      refine lv_aload_n hx hb dX9_round_35 rfl (lv_at hl 0 rfl) ?_
      refine lv_iload_n hx hb dX9_round_36 rfl (lv_at hl 2 rfl) ?_
      refine lv_iconst (v := 0) hx hb dX9_round_37 (by decide) ?_
      refine mo_callv (As := [.int x2, .int 0]) S hK hM hS (m9_taken l g V9 A10 x2 0 _ hI hw) (cwV 2 hts (lw_V q1049 q1051 qs39 q64 q1052) rfl rfl rfl (by decide +kernel) ⟨Nat.le_of_ble_eq_true rfl, Nat.le_of_ble_eq_true rfl⟩) rfl hl.1 rfl (lv_room (Nat.le_of_ble_eq_true rfl)) dX9_round_38 ⟨Nat.zero_le _, Nat.zero_le _⟩ (fun V12 A13 H locs hw hM hS => ?_)
      refine lv_iinc (v := x1 + 1) (lv' := [(1, .int (x1 + 1)), (0, .ref (mh g)), (2, .int x2)]) hx hb dX9_round_41 hl (k := 1) rfl rfl (by decide) rfl (fun ls hl => ?_)
      refine lv_goto (tgt := 14) hx hb dX9_round_44 (by decide) ?_
      exact hkb _ _ _ _ hw _ _ hM hS _ (lv_sub hl [1, 0, 2] rfl)
def b9_round_9 (post : Int32 → VV → AA → Prop)  (kb : VV → AA → Int32 → Int32 → Prop) (V : VV) (A : AA) (x1 x2 : Int32) : Prop :=
  (2 ≤ x2 → post x1 V A) ∧ (¬ 2 ≤ x2 → ∃ n, w9_round_14 post (fun (V17 : VV) (A18 : AA) (x1_15 x2_16 : Int32) => kb V17 A18 x1_15 (x2_16 + 1)) n V A x1 x2)
def w9_round_9 (post : Int32 → VV → AA → Prop)  : Nat → VV → AA → Int32 → Int32 → Prop
  | 0 => fun _ _ _ _ => False
  | n + 1 => b9_round_9 post  (w9_round_9 post  n)
set_option maxHeartbeats 4000000 in
set_option maxRecDepth 100000 in
theorem r9_round_9 {p : Program} {l : Launch} {e : Env} {s : State} {m : MethodId} {args : Array Value} {below : List Frame} {meth : Method} {c : Code} {g : MG} (S : CallFix p m c cX9_round 3 s args lw_all RX9) (hr : meth.sig.returnType = (some .int)) (hlocks : meth.locks = false) (hK : KM g s) (hI : HI g) {post : Int32 → VV → AA → Prop}  : ∀ n : Nat, ∀ (V : VV) (A : AA) (x1 x2 : Int32), w9_round_9 post  n V A x1 x2 → ∀ (H : Heap) (locs : List Loc), HM g V A H → va_S (HA g) s.heap H locs → ∀ (ls : Array Slot), lv_has ls 3 [(0, .ref (mh g)), (1, .int x1), (2, .int x2)] → W p l e rm9_round s m args below meth c H locs 0 0 (MQ below (MQi g post) args s 0 0 (HA g)) (F0 m 9 ls []) := by
  have hx := S.1
  have hb := S.2.1
  have hown := S.2.2.2.1
  have hts := S.2.2.2.2
  intro n
  induction n with
  | zero =>
    intro V A x1 x2 hw
    exact hw.elim
  | succ n hkb =>
    intro V A x1 x2 hw H locs hM hS ls hl
    unfold w9_round_9 b9_round_9 at hw
    refine lv_iload_n hx hb dX9_round_9 rfl (lv_at hl 2 rfl) ?_
    refine lv_iconst (v := 2) hx hb dX9_round_10 (by decide) ?_
    refine lv_icmp_ge (tgt := 53) hx hb dX9_round_11 (by decide) (fun c4 => ?_) (fun c4 => ?_)
    · have hw := hw.1 c4
      refine lv_iload_n hx hb dX9_round_53 rfl (lv_at hl 1 rfl) ?_
      exact mo_iret S hr hlocks hM hS hw dX9_round_54
    · have hw := hw.2 c4
      obtain ⟨n, hw⟩ := hw
      refine r9_round_14 S hr hlocks hK hI (fun V17 A18 x1_15 x2_16 hw H locs hM hS ls hl => ?_) n _ _ _ _ hw _ _ hM hS _ (lv_sub hl [0, 1, 2] rfl)
      refine lv_iinc (v := x2_16 + 1) (lv' := [(2, .int (x2_16 + 1)), (0, .ref (mh g)), (1, .int x1_15)]) hx hb dX9_round_47 hl (k := 2) rfl rfl (by decide) rfl (fun ls hl => ?_)
      refine lv_goto (tgt := 9) hx hb dX9_round_50 (by decide) ?_
      exact hkb _ _ _ _ hw _ _ hM hS _ (lv_sub hl [1, 2, 0] rfl)
def w9_round (post : Int32 → VV → AA → Prop) (V : VV) (A : AA) : Prop :=
  w9_tick (fun (r3 : Int32) (V1 : VV) (A2 : AA) => ∃ n, w9_round_9 post  n V1 A2 0 0) V A 
set_option maxHeartbeats 4000000 in
set_option maxRecDepth 100000 in
theorem m9_round (l : Launch) (g : MG) (V : VV) (A : AA) (post : Int32 → VV → AA → Prop) (hI : HI g) (hw : w9_round post V A ) : Met l yX9_round (ws_ yX9_round cX9_round 3 (some .int)) rm9_round (MPc g V A [.ref (mh g)]) (MQi g post) 0 0 (HA g) := by
  refine Met.ofW (cc := cX9_round) (maxL := 3) (ret := (some .int)) (by decide) rfl ?_
  intro p e s m args below meth c s₁ B hml hv
  obtain ⟨rfl, hK, hM⟩ := hv
  have hx := B.exec
  have hb := B.bytes
  have hr : meth.sig.returnType = (some .int) := B.returns
  have hts := atoms_spec (ws := ws_ yX9_round cX9_round 3 (some .int)) B.pre
  have hts : ∀ w ∈ lw_all, w.before _ s = true := fun w h => hts w (List.mem_cons_of_mem _ h)
  have hown : s.vm.findClass RX9 = some m.cls := findClass_of_methodNamed B.named
  have hlocks : meth.locks = false := B.notSynchronized
  have S : CallFix p m c cX9_round 3 s _ lw_all RX9 := ⟨hx, hb, hml, hown, hts⟩
  have hS : va_S (HA g) s.heap s.heap [] := va_S.rf
  have hl := lv_entry ([.ref (mh g)]) (n := 3) (Nat.le_of_ble_eq_true rfl)
  rw [lg_entry_eq]
  generalize (lg_sl ([.ref (mh g)]) ++ List.replicate (3 - (lg_sl ([.ref (mh g)])).length) Slot.unset).toArray = ls at hl ⊢
  have hl : lv_has ls 3 [(0, .ref (mh g))] := hl
  unfold w9_round at hw
  refine lv_aload_n hx hb dX9_round_0 rfl (lv_at hl 0 rfl) ?_
  refine mo_calli (As := []) S hK hM hS (m9_tick l g V A  _ hI hw) (cwV 0 hts (lw_V q1101 q969 q970 q64 q971) rfl rfl rfl (by decide +kernel) ⟨Nat.le_of_ble_eq_true rfl, Nat.le_of_ble_eq_true rfl⟩) rfl hl.1 rfl (lv_room (Nat.le_of_ble_eq_true rfl)) dX9_round_1 ⟨Nat.zero_le _, Nat.zero_le _⟩ (fun r3 V1 A2 H locs hw hM hS => ?_)
  refine lv_pop hx hb dX9_round_4 rfl ?_
  refine lv_iconst (v := 0) hx hb dX9_round_5 (by decide) ?_
  refine lv_istore_n (lv' := [(1, .int 0), (0, .ref (mh g))]) hx hb dX9_round_6 rfl hl (by decide) rfl (fun ls hl => ?_)
  refine lv_iconst (v := 0) hx hb dX9_round_7 (by decide) ?_
  refine lv_istore_n (lv' := [(2, .int 0), (1, .int 0), (0, .ref (mh g))]) hx hb dX9_round_8 rfl hl (by decide) rfl (fun ls hl => ?_)
  obtain ⟨n, hw⟩ := hw
  refine r9_round_9 S hr hlocks hK hI  n _ _ _ _ hw _ _ hM hS _ (lv_sub hl [2, 1, 0] rfl)
