/-! FarTypewriterModel.farTick()V -/
abbrev rm9_farTick : Room := { frames := 3, cells := 0, slots := 0, locals := 80 }
def w9_farTick_155 (post : VV → AA → Prop)  (V : VV) (A : AA) (x2 : Int32) : Prop :=
  w9_adds (fun (V13 : VV) (A14 : AA) => w9_adds (fun (V16 : VV) (A17 : AA) => w9_addsTwo (fun (V19 : VV) (A20 : AA) => vp_in x2 69 ∧ (w9_addsTwo (fun (V22 : VV) (A23 : AA) => vp_in x2 69 ∧ (w9_addsTwo (fun (V25 : VV) (A26 : AA) => vp_in x2 69 ∧ (w9_adds (fun (V28 : VV) (A29 : AA) => vp_in x2 69 ∧ (w9_adds (fun (V31 : VV) (A32 : AA) => w9_stateOf (fun (r36 : Int32) (V34 : VV) (A35 : AA) => w9_difference (fun (V37 : VV) (A38 : AA) => w9_sends (fun (V40 : VV) (A41 : AA) => vp_in x2 69 ∧ post (vu (vu (vu V40 15 (V40 11)) 16 (A41 4 x2.toNatClampNeg)) 17 0) A41) V37 A38 1) V34 A35 r36 x2) V31 A32 1 (V31 14) (V31 13)) V28 A29 (A29 3 x2.toNatClampNeg))) V25 A26 (A26 2 x2.toNatClampNeg))) V22 A23 (A23 5 x2.toNatClampNeg))) V19 A20 (A20 4 x2.toNatClampNeg))) V16 A17 (V16 13)) V13 A14 (V13 18)) (vu V 34 0) A 83
set_option maxHeartbeats 4000000 in
set_option maxRecDepth 100000 in
theorem r9_farTick_155 {p : Program} {l : Launch} {e : Env} {s : State} {m : MethodId} {args : Array Value} {below : List Frame} {meth : Method} {c : Code} {g : MG} (S : CallFix p m c cX9_farTick 4 s args lw_all RX9) (hr : meth.sig.returnType = none) (hlocks : meth.locks = false) (hK : KM g s) (hI : HI g) {post : VV → AA → Prop}  : ∀ (V : VV) (A : AA) (x2 : Int32), w9_farTick_155 post  V A x2 → ∀ (H : Heap) (locs : List Loc), HM g V A H → va_S (HA g) s.heap H locs → ∀ (ls : Array Slot), lv_has ls 4 [(0, .ref (mh g)), (2, .int x2)] → W p l e rm9_farTick s m args below meth c H locs 0 0 (MQ below (MQv g post) args s 0 0 (HA g)) (F0 m 155 ls []) := by
  have hx := S.1
  have hb := S.2.1
  have hown := S.2.2.2.1
  have hts := S.2.2.2.2
  intro V A x2 hw H locs hM hS ls hl
  unfold w9_farTick_155 at hw
  refine lv_aload_n hx hb dX9_farTick_155 rfl (lv_at hl 0 rfl) ?_
  refine lv_iconst (v := 0) hx hb dX9_farTick_156 (by decide) ?_
  refine mo_put S hK hI hM hS 34 (by decide) q813 dX9_farTick_157 rfl rfl ⟨rfl, rfl⟩ (fun H locs hM hS => ?_)
  refine lv_aload_n hx hb dX9_farTick_160 rfl (lv_at hl 0 rfl) ?_
  refine lv_bipush (v := 83) hx hb dX9_farTick_161 (by decide) ?_
  refine mo_callv (As := [.int 83]) S hK hM hS (m9_adds l g (vu V 34 0) A 83 _ hI hw) (cwV 1 hts (lw_V q988 q990 qs25 q64 q991) rfl rfl rfl (by decide +kernel) ⟨Nat.le_of_ble_eq_true rfl, Nat.le_of_ble_eq_true rfl⟩) rfl hl.1 rfl (lv_room (Nat.le_of_ble_eq_true rfl)) dX9_farTick_163 ⟨Nat.zero_le _, Nat.zero_le _⟩ (fun V13 A14 H locs hw hM hS => ?_)
  refine lv_aload_n hx hb dX9_farTick_166 rfl (lv_at hl 0 rfl) ?_
  refine lv_aload_n hx hb dX9_farTick_167 rfl (lv_at hl 0 rfl) ?_
  refine mo_geti S hK hM 18 (by decide) q797 dX9_farTick_168 rfl ?_
  refine mo_callv (As := [.int (V13 18)]) S hK hM hS (m9_adds l g V13 A14 (V13 18) _ hI hw) (cwV 1 hts (lw_V q988 q990 qs25 q64 q991) rfl rfl rfl (by decide +kernel) ⟨Nat.le_of_ble_eq_true rfl, Nat.le_of_ble_eq_true rfl⟩) rfl hl.1 rfl (lv_room (Nat.le_of_ble_eq_true rfl)) dX9_farTick_171 ⟨Nat.zero_le _, Nat.zero_le _⟩ (fun V16 A17 H locs hw hM hS => ?_)
  refine lv_aload_n hx hb dX9_farTick_174 rfl (lv_at hl 0 rfl) ?_
  refine lv_aload_n hx hb dX9_farTick_175 rfl (lv_at hl 0 rfl) ?_
  refine mo_geti S hK hM 13 (by decide) q792 dX9_farTick_176 rfl ?_
  refine mo_callv (As := [.int (V16 13)]) S hK hM hS (m9_addsTwo l g V16 A17 (V16 13) _ hI hw) (cwV 1 hts (lw_V q992 q994 qs26 q64 q995) rfl rfl rfl (by decide +kernel) ⟨Nat.le_of_ble_eq_true rfl, Nat.le_of_ble_eq_true rfl⟩) rfl hl.1 rfl (lv_room (Nat.le_of_ble_eq_true rfl)) dX9_farTick_179 ⟨Nat.zero_le _, Nat.zero_le _⟩ (fun V19 A20 H locs hw hM hS => ?_)
  refine lv_aload_n hx hb dX9_farTick_182 rfl (lv_at hl 0 rfl) ?_
  refine lv_aload_n hx hb dX9_farTick_183 rfl (lv_at hl 0 rfl) ?_
  refine mo_geta S hK hM 4 (by decide) q783 dX9_farTick_184 rfl ?_
  refine lv_iload_n hx hb dX9_farTick_187 rfl (lv_at hl 1 rfl) ?_
  have hin := hw.1
  have hw := hw.2
  refine mo_ald S hK hM 4 rfl hin dX9_farTick_188 ?_
  refine mo_callv (As := [.int (A20 4 x2.toNatClampNeg)]) S hK hM hS (m9_addsTwo l g V19 A20 (A20 4 x2.toNatClampNeg) _ hI hw) (cwV 1 hts (lw_V q992 q994 qs26 q64 q995) rfl rfl rfl (by decide +kernel) ⟨Nat.le_of_ble_eq_true rfl, Nat.le_of_ble_eq_true rfl⟩) rfl hl.1 rfl (lv_room (Nat.le_of_ble_eq_true rfl)) dX9_farTick_189 ⟨Nat.zero_le _, Nat.zero_le _⟩ (fun V22 A23 H locs hw hM hS => ?_)
  refine lv_aload_n hx hb dX9_farTick_192 rfl (lv_at hl 0 rfl) ?_
  refine lv_aload_n hx hb dX9_farTick_193 rfl (lv_at hl 0 rfl) ?_
  refine mo_geta S hK hM 5 (by decide) q784 dX9_farTick_194 rfl ?_
  refine lv_iload_n hx hb dX9_farTick_197 rfl (lv_at hl 1 rfl) ?_
  have hin := hw.1
  have hw := hw.2
  refine mo_ald S hK hM 5 rfl hin dX9_farTick_198 ?_
  refine mo_callv (As := [.int (A23 5 x2.toNatClampNeg)]) S hK hM hS (m9_addsTwo l g V22 A23 (A23 5 x2.toNatClampNeg) _ hI hw) (cwV 1 hts (lw_V q992 q994 qs26 q64 q995) rfl rfl rfl (by decide +kernel) ⟨Nat.le_of_ble_eq_true rfl, Nat.le_of_ble_eq_true rfl⟩) rfl hl.1 rfl (lv_room (Nat.le_of_ble_eq_true rfl)) dX9_farTick_199 ⟨Nat.zero_le _, Nat.zero_le _⟩ (fun V25 A26 H locs hw hM hS => ?_)
  refine lv_aload_n hx hb dX9_farTick_202 rfl (lv_at hl 0 rfl) ?_
  refine lv_aload_n hx hb dX9_farTick_203 rfl (lv_at hl 0 rfl) ?_
  refine mo_geta S hK hM 2 (by decide) q781 dX9_farTick_204 rfl ?_
  refine lv_iload_n hx hb dX9_farTick_207 rfl (lv_at hl 1 rfl) ?_
  have hin := hw.1
  have hw := hw.2
  refine mo_ald S hK hM 2 rfl hin dX9_farTick_208 ?_
  refine mo_callv (As := [.int (A26 2 x2.toNatClampNeg)]) S hK hM hS (m9_adds l g V25 A26 (A26 2 x2.toNatClampNeg) _ hI hw) (cwV 1 hts (lw_V q988 q990 qs25 q64 q991) rfl rfl rfl (by decide +kernel) ⟨Nat.le_of_ble_eq_true rfl, Nat.le_of_ble_eq_true rfl⟩) rfl hl.1 rfl (lv_room (Nat.le_of_ble_eq_true rfl)) dX9_farTick_209 ⟨Nat.zero_le _, Nat.zero_le _⟩ (fun V28 A29 H locs hw hM hS => ?_)
  refine lv_aload_n hx hb dX9_farTick_212 rfl (lv_at hl 0 rfl) ?_
  refine lv_aload_n hx hb dX9_farTick_213 rfl (lv_at hl 0 rfl) ?_
  refine mo_geta S hK hM 3 (by decide) q782 dX9_farTick_214 rfl ?_
  refine lv_iload_n hx hb dX9_farTick_217 rfl (lv_at hl 1 rfl) ?_
  have hin := hw.1
  have hw := hw.2
  refine mo_ald S hK hM 3 rfl hin dX9_farTick_218 ?_
  refine mo_callv (As := [.int (A29 3 x2.toNatClampNeg)]) S hK hM hS (m9_adds l g V28 A29 (A29 3 x2.toNatClampNeg) _ hI hw) (cwV 1 hts (lw_V q988 q990 qs25 q64 q991) rfl rfl rfl (by decide +kernel) ⟨Nat.le_of_ble_eq_true rfl, Nat.le_of_ble_eq_true rfl⟩) rfl hl.1 rfl (lv_room (Nat.le_of_ble_eq_true rfl)) dX9_farTick_219 ⟨Nat.zero_le _, Nat.zero_le _⟩ (fun V31 A32 H locs hw hM hS => ?_)
  refine lv_aload_n hx hb dX9_farTick_222 rfl (lv_at hl 0 rfl) ?_
  refine lv_aload_n hx hb dX9_farTick_223 rfl (lv_at hl 0 rfl) ?_
  refine lv_iconst (v := 1) hx hb dX9_farTick_224 (by decide) ?_
  refine lv_aload_n hx hb dX9_farTick_225 rfl (lv_at hl 0 rfl) ?_
  refine mo_geti S hK hM 14 (by decide) q793 dX9_farTick_226 rfl ?_
  refine lv_aload_n hx hb dX9_farTick_229 rfl (lv_at hl 0 rfl) ?_
  refine mo_geti S hK hM 13 (by decide) q792 dX9_farTick_230 rfl ?_
  refine mo_calli (As := [.int 1, .int (V31 14), .int (V31 13)]) S hK hM hS (m9_stateOf l g V31 A32 1 (V31 14) (V31 13) _ hI hw) (cwV 3 hts (lw_V q996 q998 qs27 q64 q999) rfl rfl rfl (by decide +kernel) ⟨Nat.le_of_ble_eq_true rfl, Nat.le_of_ble_eq_true rfl⟩) rfl hl.1 rfl (lv_room (Nat.le_of_ble_eq_true rfl)) dX9_farTick_233 ⟨Nat.zero_le _, Nat.zero_le _⟩ (fun r36 V34 A35 H locs hw hM hS => ?_)
  refine lv_iload_n hx hb dX9_farTick_236 rfl (lv_at hl 1 rfl) ?_
  refine mo_callv (As := [.int r36, .int x2]) S hK hM hS (m9_difference l g V34 A35 r36 x2 _ hI hw) (cwV 2 hts (lw_V q1000 q1002 qs28 q64 q1003) rfl rfl rfl (by decide +kernel) ⟨Nat.le_of_ble_eq_true rfl, Nat.le_of_ble_eq_true rfl⟩) rfl hl.1 rfl (lv_room (Nat.le_of_ble_eq_true rfl)) dX9_farTick_237 ⟨Nat.zero_le _, Nat.zero_le _⟩ (fun V37 A38 H locs hw hM hS => ?_)
  refine lv_aload_n hx hb dX9_farTick_240 rfl (lv_at hl 0 rfl) ?_
  refine lv_iconst (v := 1) hx hb dX9_farTick_241 (by decide) ?_
  refine mo_callv (As := [.int 1]) S hK hM hS (m9_sends l g V37 A38 1 _ hI hw) (cwV 1 hts (lw_V q1016 q1018 qs32 q64 q1019) rfl rfl rfl (by decide +kernel) ⟨Nat.le_of_ble_eq_true rfl, Nat.le_of_ble_eq_true rfl⟩) rfl hl.1 rfl (lv_room (Nat.le_of_ble_eq_true rfl)) dX9_farTick_242 ⟨Nat.zero_le _, Nat.zero_le _⟩ (fun V40 A41 H locs hw hM hS => ?_)
  refine lv_aload_n hx hb dX9_farTick_245 rfl (lv_at hl 0 rfl) ?_
  refine lv_aload_n hx hb dX9_farTick_246 rfl (lv_at hl 0 rfl) ?_
  refine mo_geti S hK hM 11 (by decide) q790 dX9_farTick_247 rfl ?_
  refine mo_put S hK hI hM hS 15 (by decide) q794 dX9_farTick_250 rfl rfl ⟨rfl, rfl⟩ (fun H locs hM hS => ?_)
  refine lv_aload_n hx hb dX9_farTick_253 rfl (lv_at hl 0 rfl) ?_
  refine lv_aload_n hx hb dX9_farTick_254 rfl (lv_at hl 0 rfl) ?_
  refine mo_geta S hK hM 4 (by decide) q783 dX9_farTick_255 rfl ?_
  refine lv_iload_n hx hb dX9_farTick_258 rfl (lv_at hl 1 rfl) ?_
  have hin := hw.1
  have hw := hw.2
  refine mo_ald S hK hM 4 rfl hin dX9_farTick_259 ?_
  refine mo_put S hK hI hM hS 16 (by decide) q795 dX9_farTick_260 rfl rfl ⟨rfl, rfl⟩ (fun H locs hM hS => ?_)
  refine lv_aload_n hx hb dX9_farTick_263 rfl (lv_at hl 0 rfl) ?_
  refine lv_iconst (v := 0) hx hb dX9_farTick_264 (by decide) ?_
  refine mo_put S hK hI hM hS 17 (by decide) q796 dX9_farTick_265 rfl rfl ⟨rfl, rfl⟩ (fun H locs hM hS => ?_)
  exact mo_vret S hr hlocks hM hS hw dX9_farTick_268
def w9_farTick_139 (post : VV → AA → Prop)  (V : VV) (A : AA) (x2 x3 : Int32) : Prop :=
  ((V 17) = 0 → post V A) ∧ (¬ (V 17) = 0 → ((V 9) ≤ x3 → w9_farTick_155 post V A x2) ∧ (¬ (V 9) ≤ x3 → post V A))
set_option maxHeartbeats 4000000 in
set_option maxRecDepth 100000 in
theorem r9_farTick_139 {p : Program} {l : Launch} {e : Env} {s : State} {m : MethodId} {args : Array Value} {below : List Frame} {meth : Method} {c : Code} {g : MG} (S : CallFix p m c cX9_farTick 4 s args lw_all RX9) (hr : meth.sig.returnType = none) (hlocks : meth.locks = false) (hK : KM g s) (hI : HI g) {post : VV → AA → Prop}  : ∀ (V : VV) (A : AA) (x2 x3 : Int32), w9_farTick_139 post  V A x2 x3 → ∀ (H : Heap) (locs : List Loc), HM g V A H → va_S (HA g) s.heap H locs → ∀ (ls : Array Slot), lv_has ls 4 [(0, .ref (mh g)), (2, .int x2), (3, .int x3)] → W p l e rm9_farTick s m args below meth c H locs 0 0 (MQ below (MQv g post) args s 0 0 (HA g)) (F0 m 139 ls []) := by
  have hx := S.1
  have hb := S.2.1
  have hown := S.2.2.2.1
  have hts := S.2.2.2.2
  intro V A x2 x3 hw H locs hM hS ls hl
  unfold w9_farTick_139 at hw
  refine lv_aload_n hx hb dX9_farTick_139 rfl (lv_at hl 0 rfl) ?_
  refine mo_geti S hK hM 17 (by decide) q796 dX9_farTick_140 rfl ?_
  refine lv_if_eq (tgt := 154) hx hb dX9_farTick_143 (by decide) (fun c11 => ?_) (fun c11 => ?_)
  · have hw := hw.1 c11
    exact mo_vret S hr hlocks hM hS hw dX9_farTick_154
  · have hw := hw.2 c11
    refine lv_iload_n hx hb dX9_farTick_146 rfl (lv_at hl 2 rfl) ?_
    refine lv_aload_n hx hb dX9_farTick_147 rfl (lv_at hl 0 rfl) ?_
    refine mo_geti S hK hM 9 (by decide) q788 dX9_farTick_148 rfl ?_
    refine lv_icmp_ge (tgt := 155) hx hb dX9_farTick_151 (by decide) (fun c12 => ?_) (fun c12 => ?_)
    · have hw := hw.1 c12
      exact r9_farTick_155 S hr hlocks hK hI  _ _ _ hw _ _ hM hS _ (lv_sub hl [0, 1] rfl)
    · have hw := hw.2 c12
      exact mo_vret S hr hlocks hM hS hw dX9_farTick_154
def w9_farTick_118 (post : VV → AA → Prop)  (V : VV) (A : AA) (x2 x3 : Int32) : Prop :=
  vp_in x2 69 ∧ (((A 4 x2.toNatClampNeg) ≤ (V 13) → w9_farTick_139 post V A x2 x3) ∧ (¬ (A 4 x2.toNatClampNeg) ≤ (V 13) → ((V 10) ≤ x3 → w9_farTick_155 post V A x2) ∧ (¬ (V 10) ≤ x3 → w9_farTick_139 post V A x2 x3)))
set_option maxHeartbeats 4000000 in
set_option maxRecDepth 100000 in
theorem r9_farTick_118 {p : Program} {l : Launch} {e : Env} {s : State} {m : MethodId} {args : Array Value} {below : List Frame} {meth : Method} {c : Code} {g : MG} (S : CallFix p m c cX9_farTick 4 s args lw_all RX9) (hr : meth.sig.returnType = none) (hlocks : meth.locks = false) (hK : KM g s) (hI : HI g) {post : VV → AA → Prop}  : ∀ (V : VV) (A : AA) (x2 x3 : Int32), w9_farTick_118 post  V A x2 x3 → ∀ (H : Heap) (locs : List Loc), HM g V A H → va_S (HA g) s.heap H locs → ∀ (ls : Array Slot), lv_has ls 4 [(0, .ref (mh g)), (2, .int x2), (3, .int x3)] → W p l e rm9_farTick s m args below meth c H locs 0 0 (MQ below (MQv g post) args s 0 0 (HA g)) (F0 m 118 ls []) := by
  have hx := S.1
  have hb := S.2.1
  have hown := S.2.2.2.1
  have hts := S.2.2.2.2
  intro V A x2 x3 hw H locs hM hS ls hl
  unfold w9_farTick_118 at hw
  refine lv_aload_n hx hb dX9_farTick_118 rfl (lv_at hl 0 rfl) ?_
  refine mo_geti S hK hM 13 (by decide) q792 dX9_farTick_119 rfl ?_
  refine lv_aload_n hx hb dX9_farTick_122 rfl (lv_at hl 0 rfl) ?_
  refine mo_geta S hK hM 4 (by decide) q783 dX9_farTick_123 rfl ?_
  refine lv_iload_n hx hb dX9_farTick_126 rfl (lv_at hl 1 rfl) ?_
  have hin := hw.1
  have hw := hw.2
  refine mo_ald S hK hM 4 rfl hin dX9_farTick_127 ?_
  refine lv_icmp_ge (tgt := 139) hx hb dX9_farTick_128 (by decide) (fun c10 => ?_) (fun c10 => ?_)
  · have hw := hw.1 c10
    exact r9_farTick_139 S hr hlocks hK hI  _ _ _ _ hw _ _ hM hS _ (lv_sub hl [0, 1, 2] rfl)
  · have hw := hw.2 c10
    refine lv_iload_n hx hb dX9_farTick_131 rfl (lv_at hl 2 rfl) ?_
    refine lv_aload_n hx hb dX9_farTick_132 rfl (lv_at hl 0 rfl) ?_
    refine mo_geti S hK hM 10 (by decide) q789 dX9_farTick_133 rfl ?_
    refine lv_icmp_ge (tgt := 155) hx hb dX9_farTick_136 (by decide) (fun c43 => ?_) (fun c43 => ?_)
    · have hw := hw.1 c43
      exact r9_farTick_155 S hr hlocks hK hI  _ _ _ hw _ _ hM hS _ (lv_sub hl [0, 1] rfl)
    · have hw := hw.2 c43
      exact r9_farTick_139 S hr hlocks hK hI  _ _ _ _ hw _ _ hM hS _ (lv_sub hl [0, 1, 2] rfl)
def w9_farTick_82 (post : VV → AA → Prop)  (V : VV) (A : AA) : Prop :=
  w9_farNewest (fun (r7 : Int32) (V5 : VV) (A6 : AA) => ∀ y3_8 : Int32, y3_8 = (V5 11) - (V5 15) → (vp_in r7 69 ∧ (((A6 4 r7.toNatClampNeg) = (V5 16) → w9_farTick_118 post V5 A6 r7 y3_8) ∧ (¬ (A6 4 r7.toNatClampNeg) = (V5 16) → ((V5 9) ≤ y3_8 → w9_farTick_155 post V5 A6 r7) ∧ (¬ (V5 9) ≤ y3_8 → w9_farTick_118 post V5 A6 r7 y3_8))))) V A 
set_option maxHeartbeats 4000000 in
set_option maxRecDepth 100000 in
theorem r9_farTick_82 {p : Program} {l : Launch} {e : Env} {s : State} {m : MethodId} {args : Array Value} {below : List Frame} {meth : Method} {c : Code} {g : MG} (S : CallFix p m c cX9_farTick 4 s args lw_all RX9) (hr : meth.sig.returnType = none) (hlocks : meth.locks = false) (hK : KM g s) (hI : HI g) {post : VV → AA → Prop}  : ∀ (V : VV) (A : AA), w9_farTick_82 post  V A → ∀ (H : Heap) (locs : List Loc), HM g V A H → va_S (HA g) s.heap H locs → ∀ (ls : Array Slot), lv_has ls 4 [(0, .ref (mh g))] → W p l e rm9_farTick s m args below meth c H locs 0 0 (MQ below (MQv g post) args s 0 0 (HA g)) (F0 m 82 ls []) := by
  have hx := S.1
  have hb := S.2.1
  have hown := S.2.2.2.1
  have hts := S.2.2.2.2
  intro V A  hw H locs hM hS ls hl
  unfold w9_farTick_82 at hw
  refine lv_aload_n hx hb dX9_farTick_82 rfl (lv_at hl 0 rfl) ?_
  refine mo_calli (As := []) S hK hM hS (m9_farNewest l g V A  _ hI hw) (cwV 0 hts (lw_V q976 q978 qs22 q64 q979) rfl rfl rfl (by decide +kernel) ⟨Nat.le_of_ble_eq_true rfl, Nat.le_of_ble_eq_true rfl⟩) rfl hl.1 rfl (lv_room (Nat.le_of_ble_eq_true rfl)) dX9_farTick_83 ⟨Nat.zero_le _, Nat.zero_le _⟩ (fun r7 V5 A6 H locs hw hM hS => ?_)
  refine lv_istore_n (lv' := [(2, .int r7), (0, .ref (mh g))]) hx hb dX9_farTick_86 rfl hl (by decide) rfl (fun ls hl => ?_)
  refine lv_aload_n hx hb dX9_farTick_87 rfl (lv_at hl 1 rfl) ?_
  refine mo_geti S hK hM 11 (by decide) q790 dX9_farTick_88 rfl ?_
  refine lv_aload_n hx hb dX9_farTick_91 rfl (lv_at hl 1 rfl) ?_
  refine mo_geti S hK hM 15 (by decide) q794 dX9_farTick_92 rfl ?_
  refine lv_isub hx hb dX9_farTick_95 ?_
  refine lv_topi (fun y3_8 ey3_8 => ?_)
  have hw := hw y3_8 ey3_8
  refine lv_istore_n (lv' := [(3, .int y3_8), (2, .int r7), (0, .ref (mh g))]) hx hb dX9_farTick_96 rfl hl (by decide) rfl (fun ls hl => ?_)
  refine lv_aload_n hx hb dX9_farTick_97 rfl (lv_at hl 2 rfl) ?_
  refine mo_geta S hK hM 4 (by decide) q783 dX9_farTick_98 rfl ?_
  refine lv_iload_n hx hb dX9_farTick_101 rfl (lv_at hl 1 rfl) ?_
  have hin := hw.1
  have hw := hw.2
  refine mo_ald S hK hM 4 rfl hin dX9_farTick_102 ?_
  refine lv_aload_n hx hb dX9_farTick_103 rfl (lv_at hl 2 rfl) ?_
  refine mo_geti S hK hM 16 (by decide) q795 dX9_farTick_104 rfl ?_
  refine lv_icmp_eq (tgt := 118) hx hb dX9_farTick_107 (by decide) (fun c9 => ?_) (fun c9 => ?_)
  · have hw := hw.1 c9
    exact r9_farTick_118 S hr hlocks hK hI  _ _ _ _ hw _ _ hM hS _ (lv_sub hl [2, 1, 0] rfl)
  · have hw := hw.2 c9
    refine lv_iload_n hx hb dX9_farTick_110 rfl (lv_at hl 0 rfl) ?_
    refine lv_aload_n hx hb dX9_farTick_111 rfl (lv_at hl 2 rfl) ?_
    refine mo_geti S hK hM 9 (by decide) q788 dX9_farTick_112 rfl ?_
    refine lv_icmp_ge (tgt := 155) hx hb dX9_farTick_115 (by decide) (fun c44 => ?_) (fun c44 => ?_)
    · have hw := hw.1 c44
      exact r9_farTick_155 S hr hlocks hK hI  _ _ _ hw _ _ hM hS _ (lv_sub hl [2, 1] rfl)
    · have hw := hw.2 c44
      exact r9_farTick_118 S hr hlocks hK hI  _ _ _ _ hw _ _ hM hS _ (lv_sub hl [2, 1, 0] rfl)
def w9_farTick_36 (post : VV → AA → Prop)  (V : VV) (A : AA) (x1 : Int32) : Prop :=
  w9_copies (fun (V49 : VV) (A50 : AA) => vp_in x1 69 ∧ (vp_in (x1 + 1) 69 ∧ (vp_in (x1 + 1) 69 ∧ w9_farTick_82 post (vu V49 14 ((V49 14) + 1)) (au (au A50 4 (x1 + 1).toNatClampNeg ((A50 4 x1.toNatClampNeg) + 1)) 5 (x1 + 1).toNatClampNeg (V49 12))))) V A 0 (x1 + 1)
set_option maxHeartbeats 4000000 in
set_option maxRecDepth 100000 in
theorem r9_farTick_36 {p : Program} {l : Launch} {e : Env} {s : State} {m : MethodId} {args : Array Value} {below : List Frame} {meth : Method} {c : Code} {g : MG} (S : CallFix p m c cX9_farTick 4 s args lw_all RX9) (hr : meth.sig.returnType = none) (hlocks : meth.locks = false) (hK : KM g s) (hI : HI g) {post : VV → AA → Prop}  : ∀ (V : VV) (A : AA) (x1 : Int32), w9_farTick_36 post  V A x1 → ∀ (H : Heap) (locs : List Loc), HM g V A H → va_S (HA g) s.heap H locs → ∀ (ls : Array Slot), lv_has ls 4 [(0, .ref (mh g)), (1, .int x1)] → W p l e rm9_farTick s m args below meth c H locs 0 0 (MQ below (MQv g post) args s 0 0 (HA g)) (F0 m 36 ls []) := by
  have hx := S.1
  have hb := S.2.1
  have hown := S.2.2.2.1
  have hts := S.2.2.2.2
  intro V A x1 hw H locs hM hS ls hl
  unfold w9_farTick_36 at hw
  refine lv_aload_n hx hb dX9_farTick_36 rfl (lv_at hl 0 rfl) ?_
  refine lv_iconst (v := 0) hx hb dX9_farTick_37 (by decide) ?_
  refine lv_iload_n hx hb dX9_farTick_38 rfl (lv_at hl 1 rfl) ?_
  refine lv_iconst (v := 1) hx hb dX9_farTick_39 (by decide) ?_
  refine lv_iadd hx hb dX9_farTick_40 ?_
  refine mo_callv (As := [.int 0, .int (x1 + 1)]) S hK hM hS (m9_copies l g V A 0 (x1 + 1) _ hI hw) (cwV 2 hts (lw_V q984 q986 qs24 q64 q987) rfl rfl rfl (by decide +kernel) ⟨Nat.le_of_ble_eq_true rfl, Nat.le_of_ble_eq_true rfl⟩) rfl hl.1 rfl (lv_room (Nat.le_of_ble_eq_true rfl)) dX9_farTick_41 ⟨Nat.zero_le _, Nat.zero_le _⟩ (fun V49 A50 H locs hw hM hS => ?_)
  refine lv_aload_n hx hb dX9_farTick_44 rfl (lv_at hl 0 rfl) ?_
  refine mo_geta S hK hM 4 (by decide) q783 dX9_farTick_45 rfl ?_
  refine lv_iload_n hx hb dX9_farTick_48 rfl (lv_at hl 1 rfl) ?_
  refine lv_iconst (v := 1) hx hb dX9_farTick_49 (by decide) ?_
  refine lv_iadd hx hb dX9_farTick_50 ?_
  refine lv_aload_n hx hb dX9_farTick_51 rfl (lv_at hl 0 rfl) ?_
  refine mo_geta S hK hM 4 (by decide) q783 dX9_farTick_52 rfl ?_
  refine lv_iload_n hx hb dX9_farTick_55 rfl (lv_at hl 1 rfl) ?_
  have hin := hw.1
  have hw := hw.2
  refine mo_ald S hK hM 4 rfl hin dX9_farTick_56 ?_
  refine lv_iconst (v := 1) hx hb dX9_farTick_57 (by decide) ?_
  refine lv_iadd hx hb dX9_farTick_58 ?_
  have hin := hw.1
  have hw := hw.2
  refine mo_ast S hK hI hM hS 4 rfl hin dX9_farTick_59 (fun H locs hM hS => ?_)
  refine lv_aload_n hx hb dX9_farTick_60 rfl (lv_at hl 0 rfl) ?_
  refine mo_geta S hK hM 5 (by decide) q784 dX9_farTick_61 rfl ?_
  refine lv_iload_n hx hb dX9_farTick_64 rfl (lv_at hl 1 rfl) ?_
  refine lv_iconst (v := 1) hx hb dX9_farTick_65 (by decide) ?_
  refine lv_iadd hx hb dX9_farTick_66 ?_
  refine lv_aload_n hx hb dX9_farTick_67 rfl (lv_at hl 0 rfl) ?_
  refine mo_geti S hK hM 12 (by decide) q791 dX9_farTick_68 rfl ?_
  have hin := hw.1
  have hw := hw.2
  refine mo_ast S hK hI hM hS 5 rfl hin dX9_farTick_71 (fun H locs hM hS => ?_)
  refine lv_aload_n hx hb dX9_farTick_72 rfl (lv_at hl 0 rfl) ?_
  refine lv_dup hx hb dX9_farTick_73 rfl ?_
  refine mo_geti S hK hM 14 (by decide) q793 dX9_farTick_74 rfl ?_
  refine lv_iconst (v := 1) hx hb dX9_farTick_77 (by decide) ?_
  refine lv_iadd hx hb dX9_farTick_78 ?_
  refine mo_put S hK hI hM hS 14 (by decide) q793 dX9_farTick_79 rfl rfl ⟨rfl, rfl⟩ (fun H locs hM hS => ?_)
  exact r9_farTick_82 S hr hlocks hK hI  _ _ hw _ _ hM hS _ (lv_sub hl [0] rfl)
def w9_farTick (post : VV → AA → Prop) (V : VV) (A : AA) : Prop :=
  w9_farNewest (fun (r3 : Int32) (V1 : VV) (A2 : AA) => (32 ≤ (V1 14) → w9_farTick_82 post V1 A2) ∧ (¬ 32 ≤ (V1 14) → w9_sameCells (fun (r47 : Int32) (V45 : VV) (A46 : AA) => (r47 = 0 → w9_farTick_36 post V45 A46 r3) ∧ (¬ r47 = 0 → vp_in r3 69 ∧ (((A46 5 r3.toNatClampNeg) = (V45 12) → w9_farTick_82 post V45 A46) ∧ (¬ (A46 5 r3.toNatClampNeg) = (V45 12) → w9_farTick_36 post V45 A46 r3)))) V1 A2 0 r3)) V A 
set_option maxHeartbeats 4000000 in
set_option maxRecDepth 100000 in
theorem m9_farTick (l : Launch) (g : MG) (V : VV) (A : AA) (post : VV → AA → Prop) (hI : HI g) (hw : w9_farTick post V A ) : Met l yX9_farTick (ws_ yX9_farTick cX9_farTick 4 none) rm9_farTick (MPc g V A [.ref (mh g)]) (MQv g post) 0 0 (HA g) := by
  refine Met.ofW (cc := cX9_farTick) (maxL := 4) (ret := none) (by decide) rfl ?_
  intro p e s m args below meth c s₁ B hml hv
  obtain ⟨rfl, hK, hM⟩ := hv
  have hx := B.exec
  have hb := B.bytes
  have hr : meth.sig.returnType = none := B.returns
  have hts := atoms_spec (ws := ws_ yX9_farTick cX9_farTick 4 none) B.pre
  have hts : ∀ w ∈ lw_all, w.before _ s = true := fun w h => hts w (List.mem_cons_of_mem _ h)
  have hown : s.vm.findClass RX9 = some m.cls := findClass_of_methodNamed B.named
  have hlocks : meth.locks = false := B.notSynchronized
  have S : CallFix p m c cX9_farTick 4 s _ lw_all RX9 := ⟨hx, hb, hml, hown, hts⟩
  have hS : va_S (HA g) s.heap s.heap [] := va_S.rf
  have hl := lv_entry ([.ref (mh g)]) (n := 4) (Nat.le_of_ble_eq_true rfl)
  rw [lg_entry_eq]
  generalize (lg_sl ([.ref (mh g)]) ++ List.replicate (4 - (lg_sl ([.ref (mh g)])).length) Slot.unset).toArray = ls at hl ⊢
  have hl : lv_has ls 4 [(0, .ref (mh g))] := hl
  unfold w9_farTick at hw
  refine lv_aload_n hx hb dX9_farTick_0 rfl (lv_at hl 0 rfl) ?_
  refine mo_calli (As := []) S hK hM hS (m9_farNewest l g V A  _ hI hw) (cwV 0 hts (lw_V q976 q978 qs22 q64 q979) rfl rfl rfl (by decide +kernel) ⟨Nat.le_of_ble_eq_true rfl, Nat.le_of_ble_eq_true rfl⟩) rfl hl.1 rfl (lv_room (Nat.le_of_ble_eq_true rfl)) dX9_farTick_1 ⟨Nat.zero_le _, Nat.zero_le _⟩ (fun r3 V1 A2 H locs hw hM hS => ?_)
  refine lv_istore_n (lv' := [(1, .int r3), (0, .ref (mh g))]) hx hb dX9_farTick_4 rfl hl (by decide) rfl (fun ls hl => ?_)
  refine lv_aload_n hx hb dX9_farTick_5 rfl (lv_at hl 1 rfl) ?_
  refine mo_geti S hK hM 14 (by decide) q793 dX9_farTick_6 rfl ?_
  refine lv_bipush (v := 32) hx hb dX9_farTick_9 (by decide) ?_
  refine lv_icmp_ge (tgt := 82) hx hb dX9_farTick_11 (by decide) (fun c4 => ?_) (fun c4 => ?_)
  · have hw := hw.1 c4
    exact r9_farTick_82 S hr hlocks hK hI  _ _ hw _ _ hM hS _ (lv_sub hl [1] rfl)
  · have hw := hw.2 c4
    refine lv_aload_n hx hb dX9_farTick_14 rfl (lv_at hl 1 rfl) ?_
    refine lv_iconst (v := 0) hx hb dX9_farTick_15 (by decide) ?_
    refine lv_iload_n hx hb dX9_farTick_16 rfl (lv_at hl 0 rfl) ?_
    refine mo_calli (As := [.int 0, .int r3]) S hK hM hS (m9_sameCells l g V1 A2 0 r3 _ hI hw) (cwV 2 hts (lw_V q980 q982 qs23 q64 q983) rfl rfl rfl (by decide +kernel) ⟨Nat.le_of_ble_eq_true rfl, Nat.le_of_ble_eq_true rfl⟩) rfl hl.1 rfl (lv_room (Nat.le_of_ble_eq_true rfl)) dX9_farTick_17 ⟨Nat.zero_le _, Nat.zero_le _⟩ (fun r47 V45 A46 H locs hw hM hS => ?_)
    refine lv_if_eq (tgt := 36) hx hb dX9_farTick_20 (by decide) (fun c48 => ?_) (fun c48 => ?_)
    · have hw := hw.1 c48
      exact r9_farTick_36 S hr hlocks hK hI  _ _ _ hw _ _ hM hS _ (lv_sub hl [1, 0] rfl)
    · have hw := hw.2 c48
      refine lv_aload_n hx hb dX9_farTick_23 rfl (lv_at hl 1 rfl) ?_
      refine mo_geta S hK hM 5 (by decide) q784 dX9_farTick_24 rfl ?_
      refine lv_iload_n hx hb dX9_farTick_27 rfl (lv_at hl 0 rfl) ?_
      have hin := hw.1
      have hw := hw.2
      refine mo_ald S hK hM 5 rfl hin dX9_farTick_28 ?_
      refine lv_aload_n hx hb dX9_farTick_29 rfl (lv_at hl 1 rfl) ?_
      refine mo_geti S hK hM 12 (by decide) q791 dX9_farTick_30 rfl ?_
      refine lv_icmp_eq (tgt := 82) hx hb dX9_farTick_33 (by decide) (fun c52 => ?_) (fun c52 => ?_)
      · have hw := hw.1 c52
        exact r9_farTick_82 S hr hlocks hK hI  _ _ hw _ _ hM hS _ (lv_sub hl [1] rfl)
      · have hw := hw.2 c52
        exact r9_farTick_36 S hr hlocks hK hI  _ _ _ hw _ _ hM hS _ (lv_sub hl [1, 0] rfl)
/-! FarTypewriterModel.nearNewest()I -/
abbrev rm9_nearNewest : Room := { frames := 0, cells := 0, slots := 0, locals := 0 }
def w9_nearNewest (post : Int32 → VV → AA → Prop) (V : VV) (A : AA) : Prop :=
  post ((34 + (V 23)) - 1) V A
set_option maxHeartbeats 4000000 in
set_option maxRecDepth 100000 in
theorem m9_nearNewest (l : Launch) (g : MG) (V : VV) (A : AA) (post : Int32 → VV → AA → Prop) (hI : HI g) (hw : w9_nearNewest post V A ) : Met l yX9_nearNewest (ws_ yX9_nearNewest cX9_nearNewest 1 (some .int)) rm9_nearNewest (MPc g V A [.ref (mh g)]) (MQi g post) 0 0 (HA g) := by
  refine Met.ofW (cc := cX9_nearNewest) (maxL := 1) (ret := (some .int)) (by decide) rfl ?_
  intro p e s m args below meth c s₁ B hml hv
  obtain ⟨rfl, hK, hM⟩ := hv
  have hx := B.exec
  have hb := B.bytes
  have hr : meth.sig.returnType = (some .int) := B.returns
  have hts := atoms_spec (ws := ws_ yX9_nearNewest cX9_nearNewest 1 (some .int)) B.pre
  have hts : ∀ w ∈ lw_all, w.before _ s = true := fun w h => hts w (List.mem_cons_of_mem _ h)
  have hown : s.vm.findClass RX9 = some m.cls := findClass_of_methodNamed B.named
  have hlocks : meth.locks = false := B.notSynchronized
  have S : CallFix p m c cX9_nearNewest 1 s _ lw_all RX9 := ⟨hx, hb, hml, hown, hts⟩
  have hS : va_S (HA g) s.heap s.heap [] := va_S.rf
  have hl := lv_entry ([.ref (mh g)]) (n := 1) (Nat.le_of_ble_eq_true rfl)
  rw [lg_entry_eq]
  generalize (lg_sl ([.ref (mh g)]) ++ List.replicate (1 - (lg_sl ([.ref (mh g)])).length) Slot.unset).toArray = ls at hl ⊢
  have hl : lv_has ls 1 [(0, .ref (mh g))] := hl
  unfold w9_nearNewest at hw
  refine lv_bipush (v := 34) hx hb dX9_nearNewest_0 (by decide) ?_
  refine lv_aload_n hx hb dX9_nearNewest_2 rfl (lv_at hl 0 rfl) ?_
  refine mo_geti S hK hM 23 (by decide) q802 dX9_nearNewest_3 rfl ?_
  refine lv_iadd hx hb dX9_nearNewest_6 ?_
  refine lv_iconst (v := 1) hx hb dX9_nearNewest_7 (by decide) ?_
  refine lv_isub hx hb dX9_nearNewest_8 ?_
  exact mo_iret S hr hlocks hM hS hw dX9_nearNewest_9
/-! FarTypewriterModel.nearTick()V -/
abbrev rm9_nearTick : Room := { frames := 3, cells := 0, slots := 0, locals := 65 }
def b9_nearTick_127 (post : VV → AA → Prop)  (kb : VV → AA → Int32 → Prop) (V : VV) (A : AA) (x2 : Int32) : Prop :=
  ((V 21) ≤ x2 → w9_sends (fun (V26 : VV) (A27 : AA) => post (vu (vu (vu V26 24 (V26 11)) 25 ((vu V26 24 (V26 11)) 21)) 26 0) A27) V A 0) ∧ (¬ (V 21) ≤ x2 → vp_in x2 1000 ∧ w9_adds (fun (V29 : VV) (A30 : AA) => kb V29 A30 (x2 + 1)) V A (A 20 x2.toNatClampNeg))
def w9_nearTick_127 (post : VV → AA → Prop)  : Nat → VV → AA → Int32 → Prop
  | 0 => fun _ _ _ => False
  | n + 1 => b9_nearTick_127 post  (w9_nearTick_127 post  n)
set_option maxHeartbeats 4000000 in
set_option maxRecDepth 100000 in
theorem r9_nearTick_127 {p : Program} {l : Launch} {e : Env} {s : State} {m : MethodId} {args : Array Value} {below : List Frame} {meth : Method} {c : Code} {g : MG} (S : CallFix p m c cX9_nearTick 3 s args lw_all RX9) (hr : meth.sig.returnType = none) (hlocks : meth.locks = false) (hK : KM g s) (hI : HI g) {post : VV → AA → Prop}  : ∀ n : Nat, ∀ (V : VV) (A : AA) (x2 : Int32), w9_nearTick_127 post  n V A x2 → ∀ (H : Heap) (locs : List Loc), HM g V A H → va_S (HA g) s.heap H locs → ∀ (ls : Array Slot), lv_has ls 3 [(0, .ref (mh g)), (2, .int x2)] → W p l e rm9_nearTick s m args below meth c H locs 0 0 (MQ below (MQv g post) args s 0 0 (HA g)) (F0 m 127 ls []) := by
  have hx := S.1
  have hb := S.2.1
  have hown := S.2.2.2.1
  have hts := S.2.2.2.2
  intro n
  induction n with
  | zero =>
    intro V A x2 hw
    exact hw.elim
  | succ n hkb =>
    intro V A x2 hw H locs hM hS ls hl
    unfold w9_nearTick_127 b9_nearTick_127 at hw
    refine lv_iload_n hx hb dX9_nearTick_127 rfl (lv_at hl 1 rfl) ?_
    refine lv_aload_n hx hb dX9_nearTick_128 rfl (lv_at hl 0 rfl) ?_
    refine mo_geti S hK hM 21 (by decide) q800 dX9_nearTick_129 rfl ?_
    refine lv_icmp_ge (tgt := 151) hx hb dX9_nearTick_132 (by decide) (fun c25 => ?_) (fun c25 => ?_)
    · have hw := hw.1 c25
      refine lv_aload_n hx hb dX9_nearTick_151 rfl (lv_at hl 0 rfl) ?_
      refine lv_iconst (v := 0) hx hb dX9_nearTick_152 (by decide) ?_
      refine mo_callv (As := [.int 0]) S hK hM hS (m9_sends l g V A 0 _ hI hw) (cwV 1 hts (lw_V q1016 q1018 qs32 q64 q1019) rfl rfl rfl (by decide +kernel) ⟨Nat.le_of_ble_eq_true rfl, Nat.le_of_ble_eq_true rfl⟩) rfl hl.1 rfl (lv_room (Nat.le_of_ble_eq_true rfl)) dX9_nearTick_153 ⟨Nat.zero_le _, Nat.zero_le _⟩ (fun V26 A27 H locs hw hM hS => ?_)
      refine lv_aload_n hx hb dX9_nearTick_156 rfl (lv_at hl 0 rfl) ?_
      refine lv_aload_n hx hb dX9_nearTick_157 rfl (lv_at hl 0 rfl) ?_
      refine mo_geti S hK hM 11 (by decide) q790 dX9_nearTick_158 rfl ?_
      refine mo_put S hK hI hM hS 24 (by decide) q803 dX9_nearTick_161 rfl rfl ⟨rfl, rfl⟩ (fun H locs hM hS => ?_)
      refine lv_aload_n hx hb dX9_nearTick_164 rfl (lv_at hl 0 rfl) ?_
      refine lv_aload_n hx hb dX9_nearTick_165 rfl (lv_at hl 0 rfl) ?_
      refine mo_geti S hK hM 21 (by decide) q800 dX9_nearTick_166 rfl ?_
      refine mo_put S hK hI hM hS 25 (by decide) q804 dX9_nearTick_169 rfl rfl ⟨rfl, rfl⟩ (fun H locs hM hS => ?_)
      refine lv_aload_n hx hb dX9_nearTick_172 rfl (lv_at hl 0 rfl) ?_
      refine lv_iconst (v := 0) hx hb dX9_nearTick_173 (by decide) ?_
      refine mo_put S hK hI hM hS 26 (by decide) q805 dX9_nearTick_174 rfl rfl ⟨rfl, rfl⟩ (fun H locs hM hS => ?_)
      exact mo_vret S hr hlocks hM hS hw dX9_nearTick_177
    · have hw := hw.2 c25
      refine lv_aload_n hx hb dX9_nearTick_135 rfl (lv_at hl 0 rfl) ?_
      refine lv_aload_n hx hb dX9_nearTick_136 rfl (lv_at hl 0 rfl) ?_
      refine mo_geta S hK hM 20 (by decide) q799 dX9_nearTick_137 rfl ?_
      refine lv_iload_n hx hb dX9_nearTick_140 rfl (lv_at hl 1 rfl) ?_
      have hin := hw.1
      have hw := hw.2
      refine mo_ald S hK hM 20 rfl hin dX9_nearTick_141 ?_
      refine mo_callv (As := [.int (A 20 x2.toNatClampNeg)]) S hK hM hS (m9_adds l g V A (A 20 x2.toNatClampNeg) _ hI hw) (cwV 1 hts (lw_V q988 q990 qs25 q64 q991) rfl rfl rfl (by decide +kernel) ⟨Nat.le_of_ble_eq_true rfl, Nat.le_of_ble_eq_true rfl⟩) rfl hl.1 rfl (lv_room (Nat.le_of_ble_eq_true rfl)) dX9_nearTick_142 ⟨Nat.zero_le _, Nat.zero_le _⟩ (fun V29 A30 H locs hw hM hS => ?_)
      refine lv_iinc (v := x2 + 1) (lv' := [(2, .int (x2 + 1)), (0, .ref (mh g))]) hx hb dX9_nearTick_145 hl (k := 1) rfl rfl (by decide) rfl (fun ls hl => ?_)
      refine lv_goto (tgt := 127) hx hb dX9_nearTick_148 (by decide) ?_
      exact hkb _ _ _ hw _ _ hM hS _ (lv_sub hl [1, 0] rfl)
def w9_nearTick_74 (post : VV → AA → Prop)  (V : VV) (A : AA) : Prop :=
  w9_adds (fun (V6 : VV) (A7 : AA) => w9_adds (fun (V9 : VV) (A10 : AA) => w9_addsTwo (fun (V12 : VV) (A13 : AA) => w9_addsTwo (fun (V15 : VV) (A16 : AA) => w9_nearNewest (fun (r20 : Int32) (V18 : VV) (A19 : AA) => vp_in r20 69 ∧ (w9_addsTwo (fun (V21 : VV) (A22 : AA) => ∀ y2_24 : Int32, y2_24 = V21 22 → (∃ n, w9_nearTick_127 post  n V21 A22 y2_24)) V18 A19 (A19 4 r20.toNatClampNeg))) V15 A16 ) V12 A13 (V12 21)) V9 A10 (V9 22)) V6 A7 (V6 27)) (vu V 34 0) A 75
set_option maxHeartbeats 4000000 in
set_option maxRecDepth 100000 in
theorem r9_nearTick_74 {p : Program} {l : Launch} {e : Env} {s : State} {m : MethodId} {args : Array Value} {below : List Frame} {meth : Method} {c : Code} {g : MG} (S : CallFix p m c cX9_nearTick 3 s args lw_all RX9) (hr : meth.sig.returnType = none) (hlocks : meth.locks = false) (hK : KM g s) (hI : HI g) {post : VV → AA → Prop}  : ∀ (V : VV) (A : AA), w9_nearTick_74 post  V A → ∀ (H : Heap) (locs : List Loc), HM g V A H → va_S (HA g) s.heap H locs → ∀ (ls : Array Slot), lv_has ls 3 [(0, .ref (mh g))] → W p l e rm9_nearTick s m args below meth c H locs 0 0 (MQ below (MQv g post) args s 0 0 (HA g)) (F0 m 74 ls []) := by
  have hx := S.1
  have hb := S.2.1
  have hown := S.2.2.2.1
  have hts := S.2.2.2.2
  intro V A  hw H locs hM hS ls hl
  unfold w9_nearTick_74 at hw
  refine lv_aload_n hx hb dX9_nearTick_74 rfl (lv_at hl 0 rfl) ?_
  refine lv_iconst (v := 0) hx hb dX9_nearTick_75 (by decide) ?_
  refine mo_put S hK hI hM hS 34 (by decide) q813 dX9_nearTick_76 rfl rfl ⟨rfl, rfl⟩ (fun H locs hM hS => ?_)
  refine lv_aload_n hx hb dX9_nearTick_79 rfl (lv_at hl 0 rfl) ?_
  refine lv_bipush (v := 75) hx hb dX9_nearTick_80 (by decide) ?_
  refine mo_callv (As := [.int 75]) S hK hM hS (m9_adds l g (vu V 34 0) A 75 _ hI hw) (cwV 1 hts (lw_V q988 q990 qs25 q64 q991) rfl rfl rfl (by decide +kernel) ⟨Nat.le_of_ble_eq_true rfl, Nat.le_of_ble_eq_true rfl⟩) rfl hl.1 rfl (lv_room (Nat.le_of_ble_eq_true rfl)) dX9_nearTick_82 ⟨Nat.zero_le _, Nat.zero_le _⟩ (fun V6 A7 H locs hw hM hS => ?_)
  refine lv_aload_n hx hb dX9_nearTick_85 rfl (lv_at hl 0 rfl) ?_
  refine lv_aload_n hx hb dX9_nearTick_86 rfl (lv_at hl 0 rfl) ?_
  refine mo_geti S hK hM 27 (by decide) q806 dX9_nearTick_87 rfl ?_
  refine mo_callv (As := [.int (V6 27)]) S hK hM hS (m9_adds l g V6 A7 (V6 27) _ hI hw) (cwV 1 hts (lw_V q988 q990 qs25 q64 q991) rfl rfl rfl (by decide +kernel) ⟨Nat.le_of_ble_eq_true rfl, Nat.le_of_ble_eq_true rfl⟩) rfl hl.1 rfl (lv_room (Nat.le_of_ble_eq_true rfl)) dX9_nearTick_90 ⟨Nat.zero_le _, Nat.zero_le _⟩ (fun V9 A10 H locs hw hM hS => ?_)
  refine lv_aload_n hx hb dX9_nearTick_93 rfl (lv_at hl 0 rfl) ?_
  refine lv_aload_n hx hb dX9_nearTick_94 rfl (lv_at hl 0 rfl) ?_
  refine mo_geti S hK hM 22 (by decide) q801 dX9_nearTick_95 rfl ?_
  refine mo_callv (As := [.int (V9 22)]) S hK hM hS (m9_addsTwo l g V9 A10 (V9 22) _ hI hw) (cwV 1 hts (lw_V q992 q994 qs26 q64 q995) rfl rfl rfl (by decide +kernel) ⟨Nat.le_of_ble_eq_true rfl, Nat.le_of_ble_eq_true rfl⟩) rfl hl.1 rfl (lv_room (Nat.le_of_ble_eq_true rfl)) dX9_nearTick_98 ⟨Nat.zero_le _, Nat.zero_le _⟩ (fun V12 A13 H locs hw hM hS => ?_)
  refine lv_aload_n hx hb dX9_nearTick_101 rfl (lv_at hl 0 rfl) ?_
  refine lv_aload_n hx hb dX9_nearTick_102 rfl (lv_at hl 0 rfl) ?_
  refine mo_geti S hK hM 21 (by decide) q800 dX9_nearTick_103 rfl ?_
  refine mo_callv (As := [.int (V12 21)]) S hK hM hS (m9_addsTwo l g V12 A13 (V12 21) _ hI hw) (cwV 1 hts (lw_V q992 q994 qs26 q64 q995) rfl rfl rfl (by decide +kernel) ⟨Nat.le_of_ble_eq_true rfl, Nat.le_of_ble_eq_true rfl⟩) rfl hl.1 rfl (lv_room (Nat.le_of_ble_eq_true rfl)) dX9_nearTick_106 ⟨Nat.zero_le _, Nat.zero_le _⟩ (fun V15 A16 H locs hw hM hS => ?_)
  refine lv_aload_n hx hb dX9_nearTick_109 rfl (lv_at hl 0 rfl) ?_
  refine lv_aload_n hx hb dX9_nearTick_110 rfl (lv_at hl 0 rfl) ?_
  refine mo_geta S hK hM 4 (by decide) q783 dX9_nearTick_111 rfl ?_
  refine lv_aload_n hx hb dX9_nearTick_114 rfl (lv_at hl 0 rfl) ?_
  refine mo_calli (As := []) S hK hM hS (m9_nearNewest l g V15 A16  _ hI hw) (cwV 0 hts (lw_V q1029 q1031 qs35 q64 q1032) rfl rfl rfl (by decide +kernel) ⟨Nat.le_of_ble_eq_true rfl, Nat.le_of_ble_eq_true rfl⟩) rfl hl.1 rfl (lv_room (Nat.le_of_ble_eq_true rfl)) dX9_nearTick_115 ⟨Nat.zero_le _, Nat.zero_le _⟩ (fun r20 V18 A19 H locs hw hM hS => ?_)
  have hin := hw.1
  have hw := hw.2
  refine mo_ald S hK hM 4 rfl hin dX9_nearTick_118 ?_
  refine mo_callv (As := [.int (A19 4 r20.toNatClampNeg)]) S hK hM hS (m9_addsTwo l g V18 A19 (A19 4 r20.toNatClampNeg) _ hI hw) (cwV 1 hts (lw_V q992 q994 qs26 q64 q995) rfl rfl rfl (by decide +kernel) ⟨Nat.le_of_ble_eq_true rfl, Nat.le_of_ble_eq_true rfl⟩) rfl hl.1 rfl (lv_room (Nat.le_of_ble_eq_true rfl)) dX9_nearTick_119 ⟨Nat.zero_le _, Nat.zero_le _⟩ (fun V21 A22 H locs hw hM hS => ?_)
  refine lv_aload_n hx hb dX9_nearTick_122 rfl (lv_at hl 0 rfl) ?_
  refine mo_geti S hK hM 22 (by decide) q801 dX9_nearTick_123 rfl ?_
  refine lv_topi (fun y2_24 ey2_24 => ?_)
  have hw := hw y2_24 ey2_24
  refine lv_istore_n (lv' := [(2, .int y2_24), (0, .ref (mh g))]) hx hb dX9_nearTick_126 rfl hl (by decide) rfl (fun ls hl => ?_)
  obtain ⟨n, hw⟩ := hw
  refine r9_nearTick_127 S hr hlocks hK hI  n _ _ _ hw _ _ hM hS _ (lv_sub hl [1, 0] rfl)
def w9_nearTick_63 (post : VV → AA → Prop)  (V : VV) (A : AA) (x1 : Int32) : Prop :=
  ((4 * (V 10)) ≤ x1 → w9_nearTick_74 post V A) ∧ (¬ (4 * (V 10)) ≤ x1 → post V A)
set_option maxHeartbeats 4000000 in
set_option maxRecDepth 100000 in
theorem r9_nearTick_63 {p : Program} {l : Launch} {e : Env} {s : State} {m : MethodId} {args : Array Value} {below : List Frame} {meth : Method} {c : Code} {g : MG} (S : CallFix p m c cX9_nearTick 3 s args lw_all RX9) (hr : meth.sig.returnType = none) (hlocks : meth.locks = false) (hK : KM g s) (hI : HI g) {post : VV → AA → Prop}  : ∀ (V : VV) (A : AA) (x1 : Int32), w9_nearTick_63 post  V A x1 → ∀ (H : Heap) (locs : List Loc), HM g V A H → va_S (HA g) s.heap H locs → ∀ (ls : Array Slot), lv_has ls 3 [(0, .ref (mh g)), (1, .int x1)] → W p l e rm9_nearTick s m args below meth c H locs 0 0 (MQ below (MQv g post) args s 0 0 (HA g)) (F0 m 63 ls []) := by
  have hx := S.1
  have hb := S.2.1
  have hown := S.2.2.2.1
  have hts := S.2.2.2.2
  intro V A x1 hw H locs hM hS ls hl
  unfold w9_nearTick_63 at hw
  refine lv_iload_n hx hb dX9_nearTick_63 rfl (lv_at hl 1 rfl) ?_
  refine lv_iconst (v := 4) hx hb dX9_nearTick_64 (by decide) ?_
  refine lv_aload_n hx hb dX9_nearTick_65 rfl (lv_at hl 0 rfl) ?_
  refine mo_geti S hK hM 10 (by decide) q789 dX9_nearTick_66 rfl ?_
  refine lv_imul hx hb dX9_nearTick_69 ?_
  refine lv_icmp_ge (tgt := 74) hx hb dX9_nearTick_70 (by decide) (fun c5 => ?_) (fun c5 => ?_)
  · have hw := hw.1 c5
    exact r9_nearTick_74 S hr hlocks hK hI  _ _ hw _ _ hM hS _ (lv_sub hl [0] rfl)
  · have hw := hw.2 c5
    exact mo_vret S hr hlocks hM hS hw dX9_nearTick_73
def w9_nearTick_48 (post : VV → AA → Prop)  (V : VV) (A : AA) (x1 : Int32) : Prop :=
  ((V 26) = 0 → w9_nearTick_63 post V A x1) ∧ (¬ (V 26) = 0 → ((V 9) ≤ x1 → w9_nearTick_74 post V A) ∧ (¬ (V 9) ≤ x1 → w9_nearTick_63 post V A x1))
set_option maxHeartbeats 4000000 in
set_option maxRecDepth 100000 in
theorem r9_nearTick_48 {p : Program} {l : Launch} {e : Env} {s : State} {m : MethodId} {args : Array Value} {below : List Frame} {meth : Method} {c : Code} {g : MG} (S : CallFix p m c cX9_nearTick 3 s args lw_all RX9) (hr : meth.sig.returnType = none) (hlocks : meth.locks = false) (hK : KM g s) (hI : HI g) {post : VV → AA → Prop}  : ∀ (V : VV) (A : AA) (x1 : Int32), w9_nearTick_48 post  V A x1 → ∀ (H : Heap) (locs : List Loc), HM g V A H → va_S (HA g) s.heap H locs → ∀ (ls : Array Slot), lv_has ls 3 [(0, .ref (mh g)), (1, .int x1)] → W p l e rm9_nearTick s m args below meth c H locs 0 0 (MQ below (MQv g post) args s 0 0 (HA g)) (F0 m 48 ls []) := by
  have hx := S.1
  have hb := S.2.1
  have hown := S.2.2.2.1
  have hts := S.2.2.2.2
  intro V A x1 hw H locs hM hS ls hl
  unfold w9_nearTick_48 at hw
  refine lv_aload_n hx hb dX9_nearTick_48 rfl (lv_at hl 0 rfl) ?_
  refine mo_geti S hK hM 26 (by decide) q805 dX9_nearTick_49 rfl ?_
  refine lv_if_eq (tgt := 63) hx hb dX9_nearTick_52 (by decide) (fun c4 => ?_) (fun c4 => ?_)
  · have hw := hw.1 c4
    exact r9_nearTick_63 S hr hlocks hK hI  _ _ _ hw _ _ hM hS _ (lv_sub hl [0, 1] rfl)
  · have hw := hw.2 c4
    refine lv_iload_n hx hb dX9_nearTick_55 rfl (lv_at hl 1 rfl) ?_
    refine lv_aload_n hx hb dX9_nearTick_56 rfl (lv_at hl 0 rfl) ?_
    refine mo_geti S hK hM 9 (by decide) q788 dX9_nearTick_57 rfl ?_
    refine lv_icmp_ge (tgt := 74) hx hb dX9_nearTick_60 (by decide) (fun c32 => ?_) (fun c32 => ?_)
    · have hw := hw.1 c32
      exact r9_nearTick_74 S hr hlocks hK hI  _ _ hw _ _ hM hS _ (lv_sub hl [0] rfl)
    · have hw := hw.2 c32
      exact r9_nearTick_63 S hr hlocks hK hI  _ _ _ hw _ _ hM hS _ (lv_sub hl [0, 1] rfl)
def w9_nearTick_29 (post : VV → AA → Prop)  (V : VV) (A : AA) (x1 : Int32) : Prop :=
  ((V 21) ≤ (V 22) → w9_nearTick_48 post V A x1) ∧ (¬ (V 21) ≤ (V 22) → ((V 10) ≤ x1 → w9_nearTick_74 post V A) ∧ (¬ (V 10) ≤ x1 → w9_nearTick_48 post V A x1))
set_option maxHeartbeats 4000000 in
set_option maxRecDepth 100000 in
theorem r9_nearTick_29 {p : Program} {l : Launch} {e : Env} {s : State} {m : MethodId} {args : Array Value} {below : List Frame} {meth : Method} {c : Code} {g : MG} (S : CallFix p m c cX9_nearTick 3 s args lw_all RX9) (hr : meth.sig.returnType = none) (hlocks : meth.locks = false) (hK : KM g s) (hI : HI g) {post : VV → AA → Prop}  : ∀ (V : VV) (A : AA) (x1 : Int32), w9_nearTick_29 post  V A x1 → ∀ (H : Heap) (locs : List Loc), HM g V A H → va_S (HA g) s.heap H locs → ∀ (ls : Array Slot), lv_has ls 3 [(0, .ref (mh g)), (1, .int x1)] → W p l e rm9_nearTick s m args below meth c H locs 0 0 (MQ below (MQv g post) args s 0 0 (HA g)) (F0 m 29 ls []) := by
  have hx := S.1
  have hb := S.2.1
  have hown := S.2.2.2.1
  have hts := S.2.2.2.2
  intro V A x1 hw H locs hM hS ls hl
  unfold w9_nearTick_29 at hw
  refine lv_aload_n hx hb dX9_nearTick_29 rfl (lv_at hl 0 rfl) ?_
  refine mo_geti S hK hM 22 (by decide) q801 dX9_nearTick_30 rfl ?_
  refine lv_aload_n hx hb dX9_nearTick_33 rfl (lv_at hl 0 rfl) ?_
  refine mo_geti S hK hM 21 (by decide) q800 dX9_nearTick_34 rfl ?_
  refine lv_icmp_ge (tgt := 48) hx hb dX9_nearTick_37 (by decide) (fun c3 => ?_) (fun c3 => ?_)
  · have hw := hw.1 c3
    exact r9_nearTick_48 S hr hlocks hK hI  _ _ _ hw _ _ hM hS _ (lv_sub hl [0, 1] rfl)
  · have hw := hw.2 c3
    refine lv_iload_n hx hb dX9_nearTick_40 rfl (lv_at hl 1 rfl) ?_
    refine lv_aload_n hx hb dX9_nearTick_41 rfl (lv_at hl 0 rfl) ?_
    refine mo_geti S hK hM 10 (by decide) q789 dX9_nearTick_42 rfl ?_
    refine lv_icmp_ge (tgt := 74) hx hb dX9_nearTick_45 (by decide) (fun c33 => ?_) (fun c33 => ?_)
    · have hw := hw.1 c33
      exact r9_nearTick_74 S hr hlocks hK hI  _ _ hw _ _ hM hS _ (lv_sub hl [0] rfl)
    · have hw := hw.2 c33
      exact r9_nearTick_48 S hr hlocks hK hI  _ _ _ hw _ _ hM hS _ (lv_sub hl [0, 1] rfl)
def w9_nearTick (post : VV → AA → Prop) (V : VV) (A : AA) : Prop :=
  ∀ y1_1 : Int32, y1_1 = (V 11) - (V 24) → (((V 21) = (V 25) → w9_nearTick_29 post V A y1_1) ∧ (¬ (V 21) = (V 25) → ((V 9) ≤ y1_1 → w9_nearTick_74 post V A) ∧ (¬ (V 9) ≤ y1_1 → w9_nearTick_29 post V A y1_1)))
set_option maxHeartbeats 4000000 in
set_option maxRecDepth 100000 in
theorem m9_nearTick (l : Launch) (g : MG) (V : VV) (A : AA) (post : VV → AA → Prop) (hI : HI g) (hw : w9_nearTick post V A ) : Met l yX9_nearTick (ws_ yX9_nearTick cX9_nearTick 3 none) rm9_nearTick (MPc g V A [.ref (mh g)]) (MQv g post) 0 0 (HA g) := by
  refine Met.ofW (cc := cX9_nearTick) (maxL := 3) (ret := none) (by decide) rfl ?_
  intro p e s m args below meth c s₁ B hml hv
  obtain ⟨rfl, hK, hM⟩ := hv
  have hx := B.exec
  have hb := B.bytes
  have hr : meth.sig.returnType = none := B.returns
  have hts := atoms_spec (ws := ws_ yX9_nearTick cX9_nearTick 3 none) B.pre
  have hts : ∀ w ∈ lw_all, w.before _ s = true := fun w h => hts w (List.mem_cons_of_mem _ h)
  have hown : s.vm.findClass RX9 = some m.cls := findClass_of_methodNamed B.named
  have hlocks : meth.locks = false := B.notSynchronized
  have S : CallFix p m c cX9_nearTick 3 s _ lw_all RX9 := ⟨hx, hb, hml, hown, hts⟩
  have hS : va_S (HA g) s.heap s.heap [] := va_S.rf
  have hl := lv_entry ([.ref (mh g)]) (n := 3) (Nat.le_of_ble_eq_true rfl)
  rw [lg_entry_eq]
  generalize (lg_sl ([.ref (mh g)]) ++ List.replicate (3 - (lg_sl ([.ref (mh g)])).length) Slot.unset).toArray = ls at hl ⊢
  have hl : lv_has ls 3 [(0, .ref (mh g))] := hl
  unfold w9_nearTick at hw
  refine lv_aload_n hx hb dX9_nearTick_0 rfl (lv_at hl 0 rfl) ?_
  refine mo_geti S hK hM 11 (by decide) q790 dX9_nearTick_1 rfl ?_
  refine lv_aload_n hx hb dX9_nearTick_4 rfl (lv_at hl 0 rfl) ?_
  refine mo_geti S hK hM 24 (by decide) q803 dX9_nearTick_5 rfl ?_
  refine lv_isub hx hb dX9_nearTick_8 ?_
  refine lv_topi (fun y1_1 ey1_1 => ?_)
  have hw := hw y1_1 ey1_1
  refine lv_istore_n (lv' := [(1, .int y1_1), (0, .ref (mh g))]) hx hb dX9_nearTick_9 rfl hl (by decide) rfl (fun ls hl => ?_)
  refine lv_aload_n hx hb dX9_nearTick_10 rfl (lv_at hl 1 rfl) ?_
  refine mo_geti S hK hM 21 (by decide) q800 dX9_nearTick_11 rfl ?_
  refine lv_aload_n hx hb dX9_nearTick_14 rfl (lv_at hl 1 rfl) ?_
  refine mo_geti S hK hM 25 (by decide) q804 dX9_nearTick_15 rfl ?_
  refine lv_icmp_eq (tgt := 29) hx hb dX9_nearTick_18 (by decide) (fun c2 => ?_) (fun c2 => ?_)
  · have hw := hw.1 c2
    exact r9_nearTick_29 S hr hlocks hK hI  _ _ _ hw _ _ hM hS _ (lv_sub hl [1, 0] rfl)
  · have hw := hw.2 c2
    refine lv_iload_n hx hb dX9_nearTick_21 rfl (lv_at hl 0 rfl) ?_
    refine lv_aload_n hx hb dX9_nearTick_22 rfl (lv_at hl 1 rfl) ?_
    refine mo_geti S hK hM 9 (by decide) q788 dX9_nearTick_23 rfl ?_
    refine lv_icmp_ge (tgt := 74) hx hb dX9_nearTick_26 (by decide) (fun c34 => ?_) (fun c34 => ?_)
    · have hw := hw.1 c34
      exact r9_nearTick_74 S hr hlocks hK hI  _ _ hw _ _ hM hS _ (lv_sub hl [1] rfl)
    · have hw := hw.2 c34
      exact r9_nearTick_29 S hr hlocks hK hI  _ _ _ hw _ _ hM hS _ (lv_sub hl [1, 0] rfl)
/-! FarTypewriterModel.tick()I -/
abbrev rm9_tick : Room := { frames := 4, cells := 0, slots := 0, locals := 103 }
def w9_tick (post : Int32 → VV → AA → Prop) (V : VV) (A : AA) : Prop :=
  vp_in 0 10 ∧ (∀ y1_1 : Int32, y1_1 = A 29 (0 : Int32).toNatClampNeg → (w9_farTick (fun (V2 : VV) (A3 : AA) => w9_nearTick (fun (V5 : VV) (A6 : AA) => vp_in 0 10 ∧ post ((A6 29 (0 : Int32).toNatClampNeg) - y1_1) V5 A6) V2 A3 ) (vu V 11 ((V 11) + 1)) A ))
set_option maxHeartbeats 4000000 in
set_option maxRecDepth 100000 in
theorem m9_tick (l : Launch) (g : MG) (V : VV) (A : AA) (post : Int32 → VV → AA → Prop) (hI : HI g) (hw : w9_tick post V A ) : Met l yX9_tick (ws_ yX9_tick cX9_tick 2 (some .int)) rm9_tick (MPc g V A [.ref (mh g)]) (MQi g post) 0 0 (HA g) := by
  refine Met.ofW (cc := cX9_tick) (maxL := 2) (ret := (some .int)) (by decide) rfl ?_
  intro p e s m args below meth c s₁ B hml hv
  obtain ⟨rfl, hK, hM⟩ := hv
  have hx := B.exec
  have hb := B.bytes
  have hr : meth.sig.returnType = (some .int) := B.returns
  have hts := atoms_spec (ws := ws_ yX9_tick cX9_tick 2 (some .int)) B.pre
  have hts : ∀ w ∈ lw_all, w.before _ s = true := fun w h => hts w (List.mem_cons_of_mem _ h)
  have hown : s.vm.findClass RX9 = some m.cls := findClass_of_methodNamed B.named
  have hlocks : meth.locks = false := B.notSynchronized
  have S : CallFix p m c cX9_tick 2 s _ lw_all RX9 := ⟨hx, hb, hml, hown, hts⟩
  have hS : va_S (HA g) s.heap s.heap [] := va_S.rf
  have hl := lv_entry ([.ref (mh g)]) (n := 2) (Nat.le_of_ble_eq_true rfl)
  rw [lg_entry_eq]
  generalize (lg_sl ([.ref (mh g)]) ++ List.replicate (2 - (lg_sl ([.ref (mh g)])).length) Slot.unset).toArray = ls at hl ⊢
  have hl : lv_has ls 2 [(0, .ref (mh g))] := hl
  unfold w9_tick at hw
  refine lv_aload_n hx hb dX9_tick_0 rfl (lv_at hl 0 rfl) ?_
  refine mo_geta S hK hM 29 (by decide) q808 dX9_tick_1 rfl ?_
  refine lv_iconst (v := 0) hx hb dX9_tick_4 (by decide) ?_
  have hin := hw.1
  have hw := hw.2
  refine mo_ald S hK hM 29 rfl hin dX9_tick_5 ?_
  refine lv_topi (fun y1_1 ey1_1 => ?_)
  have hw := hw y1_1 ey1_1
  refine lv_istore_n (lv' := [(1, .int y1_1), (0, .ref (mh g))]) hx hb dX9_tick_6 rfl hl (by decide) rfl (fun ls hl => ?_)
  refine lv_aload_n hx hb dX9_tick_7 rfl (lv_at hl 1 rfl) ?_
  refine lv_dup hx hb dX9_tick_8 rfl ?_
  refine mo_geti S hK hM 11 (by decide) q790 dX9_tick_9 rfl ?_
  refine lv_iconst (v := 1) hx hb dX9_tick_12 (by decide) ?_
  refine lv_iadd hx hb dX9_tick_13 ?_
  refine mo_put S hK hI hM hS 11 (by decide) q790 dX9_tick_14 rfl rfl ⟨rfl, rfl⟩ (fun H locs hM hS => ?_)
  refine lv_aload_n hx hb dX9_tick_17 rfl (lv_at hl 1 rfl) ?_
  refine mo_callv (As := []) S hK hM hS (m9_farTick l g (vu V 11 ((V 11) + 1)) A  _ hI hw) (cwV 0 hts (lw_V q972 q974 qs21 q64 q975) rfl rfl rfl (by decide +kernel) ⟨Nat.le_of_ble_eq_true rfl, Nat.le_of_ble_eq_true rfl⟩) rfl hl.1 rfl (lv_room (Nat.le_of_ble_eq_true rfl)) dX9_tick_18 ⟨Nat.zero_le _, Nat.zero_le _⟩ (fun V2 A3 H locs hw hM hS => ?_)
  refine lv_aload_n hx hb dX9_tick_21 rfl (lv_at hl 1 rfl) ?_
  refine mo_callv (As := []) S hK hM hS (m9_nearTick l g V2 A3  _ hI hw) (cwV 0 hts (lw_V q1025 q1027 qs34 q64 q1028) rfl rfl rfl (by decide +kernel) ⟨Nat.le_of_ble_eq_true rfl, Nat.le_of_ble_eq_true rfl⟩) rfl hl.1 rfl (lv_room (Nat.le_of_ble_eq_true rfl)) dX9_tick_22 ⟨Nat.zero_le _, Nat.zero_le _⟩ (fun V5 A6 H locs hw hM hS => ?_)
  refine lv_aload_n hx hb dX9_tick_25 rfl (lv_at hl 1 rfl) ?_
  refine mo_geta S hK hM 29 (by decide) q808 dX9_tick_26 rfl ?_
  refine lv_iconst (v := 0) hx hb dX9_tick_29 (by decide) ?_
  have hin := hw.1
  have hw := hw.2
  refine mo_ald S hK hM 29 rfl hin dX9_tick_30 ?_
  refine lv_iload_n hx hb dX9_tick_31 rfl (lv_at hl 0 rfl) ?_
  refine lv_isub hx hb dX9_tick_32 ?_
  exact mo_iret S hr hlocks hM hS hw dX9_tick_33
/-! FarTypewriterModel.isLetterOf(II)Z -/
abbrev rm9_isLetterOf : Room := { frames := 0, cells := 0, slots := 0, locals := 0 }
def w9_isLetterOf_9 (post : Int32 → VV → AA → Prop)  (V : VV) (A : AA) (x1 x2 : Int32) : Prop :=
  (x2 < 0 → post 0 V A) ∧ (¬ x2 < 0 → vp_in x1 2 ∧ (((A 30 x1.toNatClampNeg) ≤ x2 → post 0 V A) ∧ (¬ (A 30 x1.toNatClampNeg) ≤ x2 → post 1 V A)))
set_option maxHeartbeats 4000000 in
set_option maxRecDepth 100000 in
theorem r9_isLetterOf_9 {p : Program} {l : Launch} {e : Env} {s : State} {m : MethodId} {args : Array Value} {below : List Frame} {meth : Method} {c : Code} {g : MG} (S : CallFix p m c cX9_isLetterOf 3 s args lw_all RX9) (hr : meth.sig.returnType = (some .boolean)) (hlocks : meth.locks = false) (hK : KM g s) (hI : HI g) {post : Int32 → VV → AA → Prop}  : ∀ (V : VV) (A : AA) (x1 x2 : Int32), w9_isLetterOf_9 post  V A x1 x2 → ∀ (H : Heap) (locs : List Loc), HM g V A H → va_S (HA g) s.heap H locs → ∀ (ls : Array Slot), lv_has ls 3 [(0, .ref (mh g)), (1, .int x1), (2, .int x2)] → W p l e rm9_isLetterOf s m args below meth c H locs 0 0 (MQ below (MQi g post) args s 0 0 (HA g)) (F0 m 9 ls []) := by
  have hx := S.1
  have hb := S.2.1
  have hown := S.2.2.2.1
  have hts := S.2.2.2.2
  intro V A x1 x2 hw H locs hM hS ls hl
  unfold w9_isLetterOf_9 at hw
  refine lv_iload_n hx hb dX9_isLetterOf_9 rfl (lv_at hl 2 rfl) ?_
  refine lv_if_lt (tgt := 27) hx hb dX9_isLetterOf_10 (by decide) (fun c2 => ?_) (fun c2 => ?_)
  · have hw := hw.1 c2
    refine lv_iconst (v := 0) hx hb dX9_isLetterOf_27 (by decide) ?_
    exact mo_zret S hr hlocks hM hS rfl hw dX9_isLetterOf_28
  · have hw := hw.2 c2
    refine lv_iload_n hx hb dX9_isLetterOf_13 rfl (lv_at hl 2 rfl) ?_
    refine lv_aload_n hx hb dX9_isLetterOf_14 rfl (lv_at hl 0 rfl) ?_
    refine mo_geta S hK hM 30 (by decide) q809 dX9_isLetterOf_15 rfl ?_
    refine lv_iload_n hx hb dX9_isLetterOf_18 rfl (lv_at hl 1 rfl) ?_
    have hin := hw.1
    have hw := hw.2
    refine mo_ald S hK hM 30 rfl hin dX9_isLetterOf_19 ?_
    refine lv_icmp_ge (tgt := 27) hx hb dX9_isLetterOf_20 (by decide) (fun c3 => ?_) (fun c3 => ?_)
    · have hw := hw.1 c3
      refine lv_iconst (v := 0) hx hb dX9_isLetterOf_27 (by decide) ?_
      exact mo_zret S hr hlocks hM hS rfl hw dX9_isLetterOf_28
    · have hw := hw.2 c3
      refine lv_iconst (v := 1) hx hb dX9_isLetterOf_23 (by decide) ?_
      refine lv_goto (tgt := 28) hx hb dX9_isLetterOf_24 (by decide) ?_
      exact mo_zret S hr hlocks hM hS rfl hw dX9_isLetterOf_28
def w9_isLetterOf (post : Int32 → VV → AA → Prop) (V : VV) (A : AA) (x1 x2 : Int32) : Prop :=
  (x1 = 0 → w9_isLetterOf_9 post V A x1 x2) ∧ (¬ x1 = 0 → (x1 = 1 → w9_isLetterOf_9 post V A x1 x2) ∧ (¬ x1 = 1 → post 0 V A))
set_option maxHeartbeats 4000000 in
set_option maxRecDepth 100000 in
theorem m9_isLetterOf (l : Launch) (g : MG) (V : VV) (A : AA) (x1 x2 : Int32) (post : Int32 → VV → AA → Prop) (hI : HI g) (hw : w9_isLetterOf post V A x1 x2) : Met l yX9_isLetterOf (ws_ yX9_isLetterOf cX9_isLetterOf 3 (some .boolean)) rm9_isLetterOf (MPc g V A [.ref (mh g), .int x1, .int x2]) (MQi g post) 0 0 (HA g) := by
  refine Met.ofW (cc := cX9_isLetterOf) (maxL := 3) (ret := (some .boolean)) (by decide) rfl ?_
  intro p e s m args below meth c s₁ B hml hv
  obtain ⟨rfl, hK, hM⟩ := hv
  have hx := B.exec
  have hb := B.bytes
  have hr : meth.sig.returnType = (some .boolean) := B.returns
  have hts := atoms_spec (ws := ws_ yX9_isLetterOf cX9_isLetterOf 3 (some .boolean)) B.pre
  have hts : ∀ w ∈ lw_all, w.before _ s = true := fun w h => hts w (List.mem_cons_of_mem _ h)
  have hown : s.vm.findClass RX9 = some m.cls := findClass_of_methodNamed B.named
  have hlocks : meth.locks = false := B.notSynchronized
  have S : CallFix p m c cX9_isLetterOf 3 s _ lw_all RX9 := ⟨hx, hb, hml, hown, hts⟩
  have hS : va_S (HA g) s.heap s.heap [] := va_S.rf
  have hl := lv_entry ([.ref (mh g), .int x1, .int x2]) (n := 3) (Nat.le_of_ble_eq_true rfl)
  rw [lg_entry_eq]
  generalize (lg_sl ([.ref (mh g), .int x1, .int x2]) ++ List.replicate (3 - (lg_sl ([.ref (mh g), .int x1, .int x2])).length) Slot.unset).toArray = ls at hl ⊢
  have hl : lv_has ls 3 [(0, .ref (mh g)), (1, .int x1), (2, .int x2)] := hl
  unfold w9_isLetterOf at hw
  refine lv_iload_n hx hb dX9_isLetterOf_0 rfl (lv_at hl 1 rfl) ?_
  refine lv_if_eq (tgt := 9) hx hb dX9_isLetterOf_1 (by decide) (fun c1 => ?_) (fun c1 => ?_)
  · have hw := hw.1 c1
    exact r9_isLetterOf_9 S hr hlocks hK hI  _ _ _ _ hw _ _ hM hS _ (lv_sub hl [0, 1, 2] rfl)
  · have hw := hw.2 c1
    refine lv_iload_n hx hb dX9_isLetterOf_4 rfl (lv_at hl 1 rfl) ?_
    refine lv_iconst (v := 1) hx hb dX9_isLetterOf_5 (by decide) ?_
    refine lv_icmp_ne (tgt := 27) hx hb dX9_isLetterOf_6 (by decide) (fun c4 => ?_) (fun c4 => ?_)
    · have hw := hw.2 c4
      refine lv_iconst (v := 0) hx hb dX9_isLetterOf_27 (by decide) ?_
      exact mo_zret S hr hlocks hM hS rfl hw dX9_isLetterOf_28
    · have hw := hw.1 c4
      exact r9_isLetterOf_9 S hr hlocks hK hI  _ _ _ _ hw _ _ hM hS _ (lv_sub hl [0, 1, 2] rfl)
/-! FarTypewriterModel.takesHand(II)V -/
abbrev rm9_takesHand : Room := { frames := 0, cells := 0, slots := 0, locals := 0 }
def b9_takesHand_17 (post : VV → AA → Prop)  (kb : VV → AA → Int32 → Int32 → Int32 → Prop) (V : VV) (A : AA) (x1 x2 x3 : Int32) : Prop :=
  ((V 34) ≤ x3 → post V A) ∧ (¬ (V 34) ≤ x3 → vp_in ((1100 * ((40 * x1) + x2)) + x3) 88000 ∧ (vp_in x3 1100 ∧ kb V (au A 33 x3.toNatClampNeg (A 31 ((1100 * ((40 * x1) + x2)) + x3).toNatClampNeg)) x1 x2 (x3 + 1)))
def w9_takesHand_17 (post : VV → AA → Prop)  : Nat → VV → AA → Int32 → Int32 → Int32 → Prop
  | 0 => fun _ _ _ _ _ => False
  | n + 1 => b9_takesHand_17 post  (w9_takesHand_17 post  n)
set_option maxHeartbeats 4000000 in
set_option maxRecDepth 100000 in
theorem r9_takesHand_17 {p : Program} {l : Launch} {e : Env} {s : State} {m : MethodId} {args : Array Value} {below : List Frame} {meth : Method} {c : Code} {g : MG} (S : CallFix p m c cX9_takesHand 4 s args lw_all RX9) (hr : meth.sig.returnType = none) (hlocks : meth.locks = false) (hK : KM g s) (hI : HI g) {post : VV → AA → Prop}  : ∀ n : Nat, ∀ (V : VV) (A : AA) (x1 x2 x3 : Int32), w9_takesHand_17 post  n V A x1 x2 x3 → ∀ (H : Heap) (locs : List Loc), HM g V A H → va_S (HA g) s.heap H locs → ∀ (ls : Array Slot), lv_has ls 4 [(0, .ref (mh g)), (1, .int x1), (2, .int x2), (3, .int x3)] → W p l e rm9_takesHand s m args below meth c H locs 0 0 (MQ below (MQv g post) args s 0 0 (HA g)) (F0 m 17 ls []) := by
  have hx := S.1
  have hb := S.2.1
  have hown := S.2.2.2.1
  have hts := S.2.2.2.2
  intro n
  induction n with
  | zero =>
    intro V A x1 x2 x3 hw
    exact hw.elim
  | succ n hkb =>
    intro V A x1 x2 x3 hw H locs hM hS ls hl
    unfold w9_takesHand_17 b9_takesHand_17 at hw
    refine lv_iload_n hx hb dX9_takesHand_17 rfl (lv_at hl 3 rfl) ?_
    refine lv_aload_n hx hb dX9_takesHand_18 rfl (lv_at hl 0 rfl) ?_
    refine mo_geti S hK hM 34 (by decide) q813 dX9_takesHand_19 rfl ?_
    refine lv_icmp_ge (tgt := 54) hx hb dX9_takesHand_22 (by decide) (fun c1 => ?_) (fun c1 => ?_)
    · have hw := hw.1 c1
      exact mo_vret S hr hlocks hM hS hw dX9_takesHand_54
    · have hw := hw.2 c1
      refine lv_aload_n hx hb dX9_takesHand_25 rfl (lv_at hl 0 rfl) ?_
      refine mo_geta S hK hM 33 (by decide) q812 dX9_takesHand_26 rfl ?_
      refine lv_iload_n hx hb dX9_takesHand_29 rfl (lv_at hl 3 rfl) ?_
      refine lv_aload_n hx hb dX9_takesHand_30 rfl (lv_at hl 0 rfl) ?_
      refine mo_geta S hK hM 31 (by decide) q810 dX9_takesHand_31 rfl ?_
      refine lv_sipush (v := 1100) hx hb dX9_takesHand_34 (by decide) ?_
      refine lv_bipush (v := 40) hx hb dX9_takesHand_37 (by decide) ?_
      refine lv_iload_n hx hb dX9_takesHand_39 rfl (lv_at hl 1 rfl) ?_
      refine lv_imul hx hb dX9_takesHand_40 ?_
      refine lv_iload_n hx hb dX9_takesHand_41 rfl (lv_at hl 2 rfl) ?_
      refine lv_iadd hx hb dX9_takesHand_42 ?_
      refine lv_imul hx hb dX9_takesHand_43 ?_
      refine lv_iload_n hx hb dX9_takesHand_44 rfl (lv_at hl 3 rfl) ?_
      refine lv_iadd hx hb dX9_takesHand_45 ?_
      have hin := hw.1
      have hw := hw.2
      refine mo_ald S hK hM 31 rfl hin dX9_takesHand_46 ?_
      have hin := hw.1
      have hw := hw.2
      refine mo_ast S hK hI hM hS 33 rfl hin dX9_takesHand_47 (fun H locs hM hS => ?_)
      refine lv_iinc (v := x3 + 1) (lv' := [(3, .int (x3 + 1)), (0, .ref (mh g)), (1, .int x1), (2, .int x2)]) hx hb dX9_takesHand_48 hl (k := 3) rfl rfl (by decide) rfl (fun ls hl => ?_)
      refine lv_goto (tgt := 17) hx hb dX9_takesHand_51 (by decide) ?_
      exact hkb _ _ _ _ _ hw _ _ hM hS _ (lv_sub hl [1, 2, 3, 0] rfl)
def w9_takesHand (post : VV → AA → Prop) (V : VV) (A : AA) (x1 x2 : Int32) : Prop :=
  vp_in ((40 * x1) + x2) 80 ∧ (∃ n, w9_takesHand_17 post  n (vu V 34 (A 32 ((40 * x1) + x2).toNatClampNeg)) A x1 x2 0)
set_option maxHeartbeats 4000000 in
set_option maxRecDepth 100000 in
theorem m9_takesHand (l : Launch) (g : MG) (V : VV) (A : AA) (x1 x2 : Int32) (post : VV → AA → Prop) (hI : HI g) (hw : w9_takesHand post V A x1 x2) : Met l yX9_takesHand (ws_ yX9_takesHand cX9_takesHand 4 none) rm9_takesHand (MPc g V A [.ref (mh g), .int x1, .int x2]) (MQv g post) 0 0 (HA g) := by
  refine Met.ofW (cc := cX9_takesHand) (maxL := 4) (ret := none) (by decide) rfl ?_
  intro p e s m args below meth c s₁ B hml hv
  obtain ⟨rfl, hK, hM⟩ := hv
  have hx := B.exec
  have hb := B.bytes
  have hr : meth.sig.returnType = none := B.returns
  have hts := atoms_spec (ws := ws_ yX9_takesHand cX9_takesHand 4 none) B.pre
  have hts : ∀ w ∈ lw_all, w.before _ s = true := fun w h => hts w (List.mem_cons_of_mem _ h)
  have hown : s.vm.findClass RX9 = some m.cls := findClass_of_methodNamed B.named
  have hlocks : meth.locks = false := B.notSynchronized
  have S : CallFix p m c cX9_takesHand 4 s _ lw_all RX9 := ⟨hx, hb, hml, hown, hts⟩
  have hS : va_S (HA g) s.heap s.heap [] := va_S.rf
  have hl := lv_entry ([.ref (mh g), .int x1, .int x2]) (n := 4) (Nat.le_of_ble_eq_true rfl)
  rw [lg_entry_eq]
  generalize (lg_sl ([.ref (mh g), .int x1, .int x2]) ++ List.replicate (4 - (lg_sl ([.ref (mh g), .int x1, .int x2])).length) Slot.unset).toArray = ls at hl ⊢
  have hl : lv_has ls 4 [(0, .ref (mh g)), (1, .int x1), (2, .int x2)] := hl
  unfold w9_takesHand at hw
  refine lv_aload_n hx hb dX9_takesHand_0 rfl (lv_at hl 0 rfl) ?_
  refine lv_aload_n hx hb dX9_takesHand_1 rfl (lv_at hl 0 rfl) ?_
  refine mo_geta S hK hM 32 (by decide) q811 dX9_takesHand_2 rfl ?_
  refine lv_bipush (v := 40) hx hb dX9_takesHand_5 (by decide) ?_
  refine lv_iload_n hx hb dX9_takesHand_7 rfl (lv_at hl 1 rfl) ?_
  refine lv_imul hx hb dX9_takesHand_8 ?_
  refine lv_iload_n hx hb dX9_takesHand_9 rfl (lv_at hl 2 rfl) ?_
  refine lv_iadd hx hb dX9_takesHand_10 ?_
  have hin := hw.1
  have hw := hw.2
  refine mo_ald S hK hM 32 rfl hin dX9_takesHand_11 ?_
  refine mo_put S hK hI hM hS 34 (by decide) q813 dX9_takesHand_12 rfl rfl ⟨rfl, rfl⟩ (fun H locs hM hS => ?_)
  refine lv_iconst (v := 0) hx hb dX9_takesHand_15 (by decide) ?_
  refine lv_istore_n (lv' := [(3, .int 0), (0, .ref (mh g)), (1, .int x1), (2, .int x2)]) hx hb dX9_takesHand_16 rfl hl (by decide) rfl (fun ls hl => ?_)
  obtain ⟨n, hw⟩ := hw
  refine r9_takesHand_17 S hr hlocks hK hI  n _ _ _ _ _ hw _ _ hM hS _ (lv_sub hl [1, 2, 3, 0] rfl)
