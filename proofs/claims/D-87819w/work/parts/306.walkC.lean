/-! FarTypewriter.lays(LFarTypewriter$Letter;LFarTypewriter$Screen;)Z -/
abbrev rm0_lays : Room := { frames := 3, cells := 0, slots := 0, locals := 224 }
def w0_lays_184 (post : Int32 → Mm → Prop) (kb : Mm → Nat → Nat → Int32 → Int32 → Int32 → Int32 → Int32 → Int32 → Prop) (M : Mm) (a0 : Nat) (a1 : Nat) (x3 : Int32) (x4 : Int32) (x5 : Int32) (x7 : Int32) (x8 : Int32) (t0 : Int32) (t1 : Int32) : Prop :=
  ∀ y2_74 : Int32, y2_74 = t1 + t0 → (kb M a0 a1 y2_74 x3 x4 x5 x7 (x8 + 1))
set_option maxHeartbeats 4000000 in
set_option maxRecDepth 100000 in
theorem r0_lays_184 {p : Program} {l : Launch} {e : Env} {s : State} {m : MethodId} {args : Array Value} {below : List Frame} {meth : Method} {c : Code} {g : CG} {AD : Nat → Prop} {M0 : Mm} (S : CallFix p m c cX0_lays 9 s args lw_all RX0) (hr : meth.sig.returnType = (some .boolean)) (hlocks : meth.locks = false) (hK : KC g s) (hA : ∀ q, s.heap.size ≤ q → AD q) {post : Int32 → Mm → Prop} {kb : Mm → Nat → Nat → Int32 → Int32 → Int32 → Int32 → Int32 → Int32 → Prop} (hkb : ∀ (M : Mm) (a0 : Nat) (a1 : Nat) (x2 : Int32) (x3 : Int32) (x4 : Int32) (x5 : Int32) (x7 : Int32) (x8 : Int32), kb M a0 a1 x2 x3 x4 x5 x7 x8 → Ext M0 M → mK M a0 = 3 → mK M a1 = 6 → ∀ (H : Heap) (locs : List Loc), HC g AD M H → va_S AD s.heap H locs → ∀ (ls : Array Slot), lv_has ls 9 [(0, .ref a0), (1, .ref a1), (2, .int x2), (3, .int x3), (4, .int x4), (5, .int x5), (7, .int x7), (8, .int x8)] → W p l e rm0_lays s m args below meth c H locs 0 0 (MQ below (CQi g AD M0 post) args s 0 0 AD) (F0 m 146 ls [])) : ∀ (M : Mm) (a0 : Nat) (a1 : Nat) (x3 : Int32) (x4 : Int32) (x5 : Int32) (x7 : Int32) (x8 : Int32) (t0 : Int32) (t1 : Int32), w0_lays_184 post kb M a0 a1 x3 x4 x5 x7 x8 t0 t1 → Ext M0 M → mK M a0 = 3 → mK M a1 = 6 → ∀ (H : Heap) (locs : List Loc), HC g AD M H → va_S AD s.heap H locs → ∀ (ls : Array Slot), lv_has ls 9 [(0, .ref a0), (1, .ref a1), (3, .int x3), (4, .int x4), (5, .int x5), (7, .int x7), (8, .int x8)] → W p l e rm0_lays s m args below meth c H locs 0 0 (MQ below (CQi g AD M0 post) args s 0 0 AD) (F0 m 184 ls [.int t0, .int t1]) := by
  have hx := S.1
  have hb := S.2.1
  have hown := S.2.2.2.1
  have hts := S.2.2.2.2
  intro M a0 a1 x3 x4 x5 x7 x8 t0 t1 hw hE hk_a0 hk_a1 H locs hH hS ls hl
  unfold w0_lays_184 at hw
  refine lv_iadd hx hb dX0_lays_184 ?_
  refine lv_topi (fun y2_74 ey2_74 => ?_)
  have hw := hw y2_74 ey2_74
  refine lv_istore_n (lv' := [(2, .int y2_74), (0, .ref a0), (1, .ref a1), (3, .int x3), (4, .int x4), (5, .int x5), (7, .int x7), (8, .int x8)]) hx hb dX0_lays_185 rfl hl (by decide) rfl (fun ls hl => ?_)
  refine lv_iinc (v := x8 + 1) (lv' := [(8, .int (x8 + 1)), (2, .int y2_74), (0, .ref a0), (1, .ref a1), (3, .int x3), (4, .int x4), (5, .int x5), (7, .int x7)]) hx hb dX0_lays_186 hl (k := 7) rfl rfl (by decide) rfl (fun ls hl => ?_)
  refine lv_goto (tgt := 146) hx hb dX0_lays_189 (by decide) ?_
  exact hkb _ _ _ _ _ _ _ _ _ hw hE hk_a0 hk_a1 _ _ hH hS _ (lv_sub hl [2, 3, 1, 4, 5, 6, 7, 0] rfl)
def b0_lays_146 (post : Int32 → Mm → Prop) (k192 : Mm → Nat → Nat → Int32 → Int32 → Int32 → Prop) (kb : Mm → Nat → Nat → Int32 → Int32 → Int32 → Int32 → Int32 → Int32 → Prop) (M : Mm) (a0 : Nat) (a1 : Nat) (x2 : Int32) (x3 : Int32) (x4 : Int32) (x5 : Int32) (x7 : Int32) (x8 : Int32) : Prop :=
  (x7 < x8 → k192 M a0 a1 x2 x3 x5) ∧ (¬ x7 < x8 → w2_at (fun (r55 : Int32) (M54 : Mm) => w2_at (fun (r61 : Int32) (M60 : Mm) => w5_put (fun (M67 : Mm) => (x5 = 0 → w0_lays_184 post kb M67 a0 a1 x3 x4 x5 x7 x8 2 x2) ∧ (¬ x5 = 0 → w0_lays_184 post kb M67 a0 a1 x3 x4 x5 x7 x8 0 x2)) M60 a1 x4 x8 r55 r61) M54 a0 (x2 + 1)) M a0 x2)
def w0_lays_146 (post : Int32 → Mm → Prop) (k192 : Mm → Nat → Nat → Int32 → Int32 → Int32 → Prop) : Nat → Mm → Nat → Nat → Int32 → Int32 → Int32 → Int32 → Int32 → Int32 → Prop
  | 0 => fun _ _ _ _ _ _ _ _ _ => False
  | n + 1 => b0_lays_146 post k192 (w0_lays_146 post k192 n)
set_option maxHeartbeats 4000000 in
set_option maxRecDepth 100000 in
theorem r0_lays_146 {p : Program} {l : Launch} {e : Env} {s : State} {m : MethodId} {args : Array Value} {below : List Frame} {meth : Method} {c : Code} {g : CG} {AD : Nat → Prop} {M0 : Mm} (S : CallFix p m c cX0_lays 9 s args lw_all RX0) (hr : meth.sig.returnType = (some .boolean)) (hlocks : meth.locks = false) (hK : KC g s) (hA : ∀ q, s.heap.size ≤ q → AD q) {post : Int32 → Mm → Prop} {k192 : Mm → Nat → Nat → Int32 → Int32 → Int32 → Prop} (hk192 : ∀ (M : Mm) (a0 : Nat) (a1 : Nat) (x2 : Int32) (x3 : Int32) (x5 : Int32), k192 M a0 a1 x2 x3 x5 → Ext M0 M → mK M a0 = 3 → mK M a1 = 6 → ∀ (H : Heap) (locs : List Loc), HC g AD M H → va_S AD s.heap H locs → ∀ (ls : Array Slot), lv_has ls 9 [(0, .ref a0), (1, .ref a1), (2, .int x2), (3, .int x3), (5, .int x5)] → W p l e rm0_lays s m args below meth c H locs 0 0 (MQ below (CQi g AD M0 post) args s 0 0 AD) (F0 m 192 ls [])) : ∀ n : Nat, ∀ (M : Mm) (a0 : Nat) (a1 : Nat) (x2 : Int32) (x3 : Int32) (x4 : Int32) (x5 : Int32) (x7 : Int32) (x8 : Int32), w0_lays_146 post k192 n M a0 a1 x2 x3 x4 x5 x7 x8 → Ext M0 M → mK M a0 = 3 → mK M a1 = 6 → ∀ (H : Heap) (locs : List Loc), HC g AD M H → va_S AD s.heap H locs → ∀ (ls : Array Slot), lv_has ls 9 [(0, .ref a0), (1, .ref a1), (2, .int x2), (3, .int x3), (4, .int x4), (5, .int x5), (7, .int x7), (8, .int x8)] → W p l e rm0_lays s m args below meth c H locs 0 0 (MQ below (CQi g AD M0 post) args s 0 0 AD) (F0 m 146 ls []) := by
  have hx := S.1
  have hb := S.2.1
  have hown := S.2.2.2.1
  have hts := S.2.2.2.2
  intro n
  induction n with
  | zero =>
    intro M a0 a1 x2 x3 x4 x5 x7 x8 hw
    exact hw.elim
  | succ n hkb =>
    intro M a0 a1 x2 x3 x4 x5 x7 x8 hw hE hk_a0 hk_a1 H locs hH hS ls hl
    unfold w0_lays_146 b0_lays_146 at hw
    refine lv_iload hx hb dX0_lays_146 (lv_at hl 7 rfl) ?_
    refine lv_iload hx hb dX0_lays_148 (lv_at hl 6 rfl) ?_
    refine lv_icmp_gt (tgt := 192) hx hb dX0_lays_150 (by decide) (fun c53 => ?_) (fun c53 => ?_)
    · have hw := hw.1 c53
      exact hk192 _ _ _ _ _ _ hw hE hk_a0 hk_a1 _ _ hH hS _ (lv_sub hl [0, 1, 2, 3, 5] rfl)
    · have hw := hw.2 c53
      refine lv_aload_n hx hb dX0_lays_153 rfl (lv_at hl 1 rfl) ?_
      refine lv_iload hx hb dX0_lays_154 (lv_at hl 4 rfl) ?_
      refine lv_iload hx hb dX0_lays_156 (lv_at hl 7 rfl) ?_
      refine lv_aload_n hx hb dX0_lays_158 rfl (lv_at hl 0 rfl) ?_
      refine lv_iload_n hx hb dX0_lays_159 rfl (lv_at hl 2 rfl) ?_
      refine co_calli (va_runV (As := [.int x2]) (rest := [.int x8, .int x4, .ref a1]) S (m2_at l g AD M a0 x2 _ hk_a0 hw) (cwV 1 hts (lw_V q644 q603 q604 q56 q605) rfl rfl rfl (by decide +kernel) ⟨Nat.le_of_ble_eq_true rfl, Nat.le_of_ble_eq_true rfl⟩) ⟨co_blind, co_recv hK hH (c := 2) (by decide) hk_a0, co_pre hK hH hA hS⟩ rfl rfl hl.1 rfl (lv_room (Nat.le_of_ble_eq_true rfl)) dX0_lays_160 ⟨Nat.le_refl _, Nat.le_refl _⟩) hS (fun r55 M54 H locs hw hH hE56 hS => ?_)
      have hk58 := hE56.k hk_a0 (by decide)
      have hk59 := hE56.k hk_a1 (by decide)
      have hE := hE.tr hE56
      refine lv_aload_n hx hb dX0_lays_163 rfl (lv_at hl 0 rfl) ?_
      refine lv_iload_n hx hb dX0_lays_164 rfl (lv_at hl 2 rfl) ?_
      refine lv_iconst (v := 1) hx hb dX0_lays_165 (by decide) ?_
      refine lv_iadd hx hb dX0_lays_166 ?_
      refine co_calli (va_runV (As := [.int (x2 + 1)]) (rest := [.int r55, .int x8, .int x4, .ref a1]) S (m2_at l g AD M54 a0 (x2 + 1) _ hk58 hw) (cwV 1 hts (lw_V q644 q603 q604 q56 q605) rfl rfl rfl (by decide +kernel) ⟨Nat.le_of_ble_eq_true rfl, Nat.le_of_ble_eq_true rfl⟩) ⟨co_blind, co_recv hK hH (c := 2) (by decide) hk58, co_pre hK hH hA hS⟩ rfl rfl hl.1 rfl (lv_room (Nat.le_of_ble_eq_true rfl)) dX0_lays_167 ⟨Nat.le_refl _, Nat.le_refl _⟩) hS (fun r61 M60 H locs hw hH hE62 hS => ?_)
      have hk64 := hE62.k hk58 (by decide)
      have hk65 := hE62.k hk59 (by decide)
      have hk66 := hE62.k hk59 (by decide)
      have hE := hE.tr hE62
      refine co_callv (va_runV (As := [.int x4, .int x8, .int r55, .int r61]) (rest := []) S (m5_put l g AD M60 a1 x4 x8 r55 r61 _ hk66 hw) (cwV 4 hts (lw_V q697 q145 q146 q59 q147) rfl rfl rfl (by decide +kernel) ⟨Nat.le_of_ble_eq_true rfl, Nat.le_of_ble_eq_true rfl⟩) ⟨co_blind, co_recv hK hH (c := 5) (by decide) hk66, co_pre hK hH hA hS⟩ rfl rfl hl.1 rfl (lv_room (Nat.le_of_ble_eq_true rfl)) dX0_lays_170 ⟨Nat.le_refl _, Nat.le_refl _⟩) hS (fun M67 H locs hw hH hE69 hS => ?_)
      have hk71 := hE69.k hk64 (by decide)
      have hk72 := hE69.k hk65 (by decide)
      have hE := hE.tr hE69
      refine lv_iload_n hx hb dX0_lays_173 rfl (lv_at hl 2 rfl) ?_
      refine lv_iload hx hb dX0_lays_174 (lv_at hl 5 rfl) ?_
      refine lv_if_eq (tgt := 183) hx hb dX0_lays_176 (by decide) (fun c73 => ?_) (fun c73 => ?_)
      · have hw := hw.1 c73
        refine lv_iconst (v := 2) hx hb dX0_lays_183 (by decide) ?_
        exact r0_lays_184 S hr hlocks hK hA hkb _ _ _ _ _ _ _ _ _ _ hw hE hk71 hk72 _ _ hH hS _ (lv_sub hl [0, 1, 3, 4, 5, 6, 7] rfl)
      · have hw := hw.2 c73
        refine lv_iconst (v := 0) hx hb dX0_lays_179 (by decide) ?_
        refine lv_goto (tgt := 184) hx hb dX0_lays_180 (by decide) ?_
        exact r0_lays_184 S hr hlocks hK hA hkb _ _ _ _ _ _ _ _ _ _ hw hE hk71 hk72 _ _ hH hS _ (lv_sub hl [0, 1, 3, 4, 5, 6, 7] rfl)
def w0_lays_203 (post : Int32 → Mm → Prop) (kb : Mm → Nat → Nat → Int32 → Int32 → Prop) (M : Mm) (a0 : Nat) (a1 : Nat) (x3 : Int32) (t0 : Int32) (t1 : Int32) : Prop :=
  ∀ y2_82 : Int32, y2_82 = t1 + t0 → (kb M a0 a1 y2_82 x3)
set_option maxHeartbeats 4000000 in
set_option maxRecDepth 100000 in
theorem r0_lays_203 {p : Program} {l : Launch} {e : Env} {s : State} {m : MethodId} {args : Array Value} {below : List Frame} {meth : Method} {c : Code} {g : CG} {AD : Nat → Prop} {M0 : Mm} (S : CallFix p m c cX0_lays 9 s args lw_all RX0) (hr : meth.sig.returnType = (some .boolean)) (hlocks : meth.locks = false) (hK : KC g s) (hA : ∀ q, s.heap.size ≤ q → AD q) {post : Int32 → Mm → Prop} {kb : Mm → Nat → Nat → Int32 → Int32 → Prop} (hkb : ∀ (M : Mm) (a0 : Nat) (a1 : Nat) (x2 : Int32) (x3 : Int32), kb M a0 a1 x2 x3 → Ext M0 M → mK M a0 = 3 → mK M a1 = 6 → ∀ (H : Heap) (locs : List Loc), HC g AD M H → va_S AD s.heap H locs → ∀ (ls : Array Slot), lv_has ls 9 [(0, .ref a0), (1, .ref a1), (2, .int x2), (3, .int x3)] → W p l e rm0_lays s m args below meth c H locs 0 0 (MQ below (CQi g AD M0 post) args s 0 0 AD) (F0 m 38 ls [])) : ∀ (M : Mm) (a0 : Nat) (a1 : Nat) (x3 : Int32) (t0 : Int32) (t1 : Int32), w0_lays_203 post kb M a0 a1 x3 t0 t1 → Ext M0 M → mK M a0 = 3 → mK M a1 = 6 → ∀ (H : Heap) (locs : List Loc), HC g AD M H → va_S AD s.heap H locs → ∀ (ls : Array Slot), lv_has ls 9 [(0, .ref a0), (1, .ref a1), (3, .int x3)] → W p l e rm0_lays s m args below meth c H locs 0 0 (MQ below (CQi g AD M0 post) args s 0 0 AD) (F0 m 203 ls [.int t0, .int t1]) := by
  have hx := S.1
  have hb := S.2.1
  have hown := S.2.2.2.1
  have hts := S.2.2.2.2
  intro M a0 a1 x3 t0 t1 hw hE hk_a0 hk_a1 H locs hH hS ls hl
  unfold w0_lays_203 at hw
  refine lv_iadd hx hb dX0_lays_203 ?_
  refine lv_topi (fun y2_82 ey2_82 => ?_)
  have hw := hw y2_82 ey2_82
  refine lv_istore_n (lv' := [(2, .int y2_82), (0, .ref a0), (1, .ref a1), (3, .int x3)]) hx hb dX0_lays_204 rfl hl (by decide) rfl (fun ls hl => ?_)
  refine lv_goto (tgt := 38) hx hb dX0_lays_205 (by decide) ?_
  exact hkb _ _ _ _ _ hw hE hk_a0 hk_a1 _ _ hH hS _ (lv_sub hl [1, 2, 0, 3] rfl)
def w0_lays_142 (post : Int32 → Mm → Prop) (kb : Mm → Nat → Nat → Int32 → Int32 → Prop) (M : Mm) (a0 : Nat) (a1 : Nat) (x2 : Int32) (x3 : Int32) (x4 : Int32) (x5 : Int32) (x6 : Int32) (x7 : Int32) : Prop :=
  ∃ n, w0_lays_146 post (fun (M80 : Mm) (a0_75 : Nat) (a1_76 : Nat) (x2_77 : Int32) (x3_78 : Int32) (x5_79 : Int32) => (x5_79 = 0 → w0_lays_203 post kb M80 a0_75 a1_76 x3_78 0 x2_77) ∧ (¬ x5_79 = 0 → w0_lays_203 post kb M80 a0_75 a1_76 x3_78 2 x2_77)) n M a0 a1 x2 x3 x4 x5 x7 x6
set_option maxHeartbeats 4000000 in
set_option maxRecDepth 100000 in
theorem r0_lays_142 {p : Program} {l : Launch} {e : Env} {s : State} {m : MethodId} {args : Array Value} {below : List Frame} {meth : Method} {c : Code} {g : CG} {AD : Nat → Prop} {M0 : Mm} (S : CallFix p m c cX0_lays 9 s args lw_all RX0) (hr : meth.sig.returnType = (some .boolean)) (hlocks : meth.locks = false) (hK : KC g s) (hA : ∀ q, s.heap.size ≤ q → AD q) {post : Int32 → Mm → Prop} {kb : Mm → Nat → Nat → Int32 → Int32 → Prop} (hkb : ∀ (M : Mm) (a0 : Nat) (a1 : Nat) (x2 : Int32) (x3 : Int32), kb M a0 a1 x2 x3 → Ext M0 M → mK M a0 = 3 → mK M a1 = 6 → ∀ (H : Heap) (locs : List Loc), HC g AD M H → va_S AD s.heap H locs → ∀ (ls : Array Slot), lv_has ls 9 [(0, .ref a0), (1, .ref a1), (2, .int x2), (3, .int x3)] → W p l e rm0_lays s m args below meth c H locs 0 0 (MQ below (CQi g AD M0 post) args s 0 0 AD) (F0 m 38 ls [])) : ∀ (M : Mm) (a0 : Nat) (a1 : Nat) (x2 : Int32) (x3 : Int32) (x4 : Int32) (x5 : Int32) (x6 : Int32) (x7 : Int32), w0_lays_142 post kb M a0 a1 x2 x3 x4 x5 x6 x7 → Ext M0 M → mK M a0 = 3 → mK M a1 = 6 → ∀ (H : Heap) (locs : List Loc), HC g AD M H → va_S AD s.heap H locs → ∀ (ls : Array Slot), lv_has ls 9 [(0, .ref a0), (1, .ref a1), (2, .int x2), (3, .int x3), (4, .int x4), (5, .int x5), (6, .int x6), (7, .int x7)] → W p l e rm0_lays s m args below meth c H locs 0 0 (MQ below (CQi g AD M0 post) args s 0 0 AD) (F0 m 142 ls []) := by
  have hx := S.1
  have hb := S.2.1
  have hown := S.2.2.2.1
  have hts := S.2.2.2.2
  intro M a0 a1 x2 x3 x4 x5 x6 x7 hw hE hk_a0 hk_a1 H locs hH hS ls hl
  unfold w0_lays_142 at hw
  refine lv_iload hx hb dX0_lays_142 (lv_at hl 6 rfl) ?_
  refine lv_istore (lv' := [(8, .int x6), (0, .ref a0), (1, .ref a1), (2, .int x2), (3, .int x3), (4, .int x4), (5, .int x5), (6, .int x6), (7, .int x7)]) hx hb dX0_lays_144 hl (by decide) rfl (fun ls hl => ?_)
  obtain ⟨n, hw⟩ := hw
  refine r0_lays_146 S hr hlocks hK hA (fun M80 a0_75 a1_76 x2_77 x3_78 x5_79 hw hE hk_a0_75 hk_a1_76 H locs hH hS ls hl => ?_) n _ _ _ _ _ _ _ _ _ hw hE hk_a0 hk_a1 _ _ hH hS _ (lv_sub hl [1, 2, 3, 4, 5, 6, 8, 0] rfl)
  refine lv_iload_n hx hb dX0_lays_192 rfl (lv_at hl 2 rfl) ?_
  refine lv_iload hx hb dX0_lays_193 (lv_at hl 4 rfl) ?_
  refine lv_if_eq (tgt := 202) hx hb dX0_lays_195 (by decide) (fun c81 => ?_) (fun c81 => ?_)
  · have hw := hw.1 c81
    refine lv_iconst (v := 0) hx hb dX0_lays_202 (by decide) ?_
    exact r0_lays_203 S hr hlocks hK hA hkb _ _ _ _ _ _ hw hE hk_a0_75 hk_a1_76 _ _ hH hS _ (lv_sub hl [0, 1, 3] rfl)
  · have hw := hw.2 c81
    refine lv_iconst (v := 2) hx hb dX0_lays_198 (by decide) ?_
    refine lv_goto (tgt := 203) hx hb dX0_lays_199 (by decide) ?_
    exact r0_lays_203 S hr hlocks hK hA hkb _ _ _ _ _ _ hw hE hk_a0_75 hk_a1_76 _ _ hH hS _ (lv_sub hl [0, 1, 3] rfl)
def w0_lays_76 (post : Int32 → Mm → Prop) (kb : Mm → Nat → Nat → Int32 → Int32 → Prop) (M : Mm) (a0 : Nat) (a1 : Nat) (x2 : Int32) (x3 : Int32) (x4 : Int32) (t0 : Int32) : Prop :=
  w2_at (fun (r38 : Int32) (M37 : Mm) => w2_at (fun (r44 : Int32) (M43 : Mm) => (8 ≤ x4 → post 0 M43) ∧ (¬ 8 ≤ x4 → (24 ≤ r44 → post 0 M43) ∧ (¬ 24 ≤ r44 → (r44 < r38 → post 0 M43) ∧ (¬ r44 < r38 → (t0 = 0 → (((x2 + 4) + ((2 : Int32) * ((r44 - r38) + 1))) ≤ x3 → w0_lays_142 post kb M43 a0 a1 (x2 + 4) x3 x4 t0 r38 r44) ∧ (¬ ((x2 + 4) + ((2 : Int32) * ((r44 - r38) + 1))) ≤ x3 → post 0 M43)) ∧ (¬ t0 = 0 → w0_lays_142 post kb M43 a0 a1 (x2 + 4) x3 x4 t0 r38 r44))))) M37 a0 (x2 + 3)) M a0 (x2 + 2)
set_option maxHeartbeats 4000000 in
set_option maxRecDepth 100000 in
theorem r0_lays_76 {p : Program} {l : Launch} {e : Env} {s : State} {m : MethodId} {args : Array Value} {below : List Frame} {meth : Method} {c : Code} {g : CG} {AD : Nat → Prop} {M0 : Mm} (S : CallFix p m c cX0_lays 9 s args lw_all RX0) (hr : meth.sig.returnType = (some .boolean)) (hlocks : meth.locks = false) (hK : KC g s) (hA : ∀ q, s.heap.size ≤ q → AD q) {post : Int32 → Mm → Prop} {kb : Mm → Nat → Nat → Int32 → Int32 → Prop} (hkb : ∀ (M : Mm) (a0 : Nat) (a1 : Nat) (x2 : Int32) (x3 : Int32), kb M a0 a1 x2 x3 → Ext M0 M → mK M a0 = 3 → mK M a1 = 6 → ∀ (H : Heap) (locs : List Loc), HC g AD M H → va_S AD s.heap H locs → ∀ (ls : Array Slot), lv_has ls 9 [(0, .ref a0), (1, .ref a1), (2, .int x2), (3, .int x3)] → W p l e rm0_lays s m args below meth c H locs 0 0 (MQ below (CQi g AD M0 post) args s 0 0 AD) (F0 m 38 ls [])) : ∀ (M : Mm) (a0 : Nat) (a1 : Nat) (x2 : Int32) (x3 : Int32) (x4 : Int32) (t0 : Int32), w0_lays_76 post kb M a0 a1 x2 x3 x4 t0 → Ext M0 M → mK M a0 = 3 → mK M a1 = 6 → ∀ (H : Heap) (locs : List Loc), HC g AD M H → va_S AD s.heap H locs → ∀ (ls : Array Slot), lv_has ls 9 [(0, .ref a0), (1, .ref a1), (2, .int x2), (3, .int x3), (4, .int x4)] → W p l e rm0_lays s m args below meth c H locs 0 0 (MQ below (CQi g AD M0 post) args s 0 0 AD) (F0 m 76 ls [.int t0]) := by
  have hx := S.1
  have hb := S.2.1
  have hown := S.2.2.2.1
  have hts := S.2.2.2.2
  intro M a0 a1 x2 x3 x4 t0 hw hE hk_a0 hk_a1 H locs hH hS ls hl
  unfold w0_lays_76 at hw
  refine lv_istore (lv' := [(5, .int t0), (0, .ref a0), (1, .ref a1), (2, .int x2), (3, .int x3), (4, .int x4)]) hx hb dX0_lays_76 hl (by decide) rfl (fun ls hl => ?_)
  refine lv_aload_n hx hb dX0_lays_78 rfl (lv_at hl 1 rfl) ?_
  refine lv_iload_n hx hb dX0_lays_79 rfl (lv_at hl 3 rfl) ?_
  refine lv_iconst (v := 2) hx hb dX0_lays_80 (by decide) ?_
  refine lv_iadd hx hb dX0_lays_81 ?_
  refine co_calli (va_runV (As := [.int (x2 + 2)]) (rest := []) S (m2_at l g AD M a0 (x2 + 2) _ hk_a0 hw) (cwV 1 hts (lw_V q644 q603 q604 q56 q605) rfl rfl rfl (by decide +kernel) ⟨Nat.le_of_ble_eq_true rfl, Nat.le_of_ble_eq_true rfl⟩) ⟨co_blind, co_recv hK hH (c := 2) (by decide) hk_a0, co_pre hK hH hA hS⟩ rfl rfl hl.1 rfl (lv_room (Nat.le_of_ble_eq_true rfl)) dX0_lays_82 ⟨Nat.le_refl _, Nat.le_refl _⟩) hS (fun r38 M37 H locs hw hH hE39 hS => ?_)
  have hk41 := hE39.k hk_a0 (by decide)
  have hk42 := hE39.k hk_a1 (by decide)
  have hE := hE.tr hE39
  refine lv_istore (lv' := [(6, .int r38), (5, .int t0), (0, .ref a0), (1, .ref a1), (2, .int x2), (3, .int x3), (4, .int x4)]) hx hb dX0_lays_85 hl (by decide) rfl (fun ls hl => ?_)
  refine lv_aload_n hx hb dX0_lays_87 rfl (lv_at hl 2 rfl) ?_
  refine lv_iload_n hx hb dX0_lays_88 rfl (lv_at hl 4 rfl) ?_
  refine lv_iconst (v := 3) hx hb dX0_lays_89 (by decide) ?_
  refine lv_iadd hx hb dX0_lays_90 ?_
  refine co_calli (va_runV (As := [.int (x2 + 3)]) (rest := []) S (m2_at l g AD M37 a0 (x2 + 3) _ hk41 hw) (cwV 1 hts (lw_V q644 q603 q604 q56 q605) rfl rfl rfl (by decide +kernel) ⟨Nat.le_of_ble_eq_true rfl, Nat.le_of_ble_eq_true rfl⟩) ⟨co_blind, co_recv hK hH (c := 2) (by decide) hk41, co_pre hK hH hA hS⟩ rfl rfl hl.1 rfl (lv_room (Nat.le_of_ble_eq_true rfl)) dX0_lays_91 ⟨Nat.le_refl _, Nat.le_refl _⟩) hS (fun r44 M43 H locs hw hH hE45 hS => ?_)
  have hk47 := hE45.k hk41 (by decide)
  have hk48 := hE45.k hk42 (by decide)
  have hE := hE.tr hE45
  refine lv_istore (lv' := [(7, .int r44), (6, .int r38), (5, .int t0), (0, .ref a0), (1, .ref a1), (2, .int x2), (3, .int x3), (4, .int x4)]) hx hb dX0_lays_94 hl (by decide) rfl (fun ls hl => ?_)
  refine lv_iinc (v := x2 + 4) (lv' := [(2, .int (x2 + 4)), (7, .int r44), (6, .int r38), (5, .int t0), (0, .ref a0), (1, .ref a1), (3, .int x3), (4, .int x4)]) hx hb dX0_lays_96 hl (k := 5) rfl rfl (by decide) rfl (fun ls hl => ?_)
  refine lv_iload hx hb dX0_lays_99 (lv_at hl 7 rfl) ?_
  refine lv_bipush (v := 8) hx hb dX0_lays_101 (by decide) ?_
  refine lv_icmp_ge (tgt := 140) hx hb dX0_lays_103 (by decide) (fun c49 => ?_) (fun c49 => ?_)
  · have hw := hw.1 c49
    refine lv_iconst (v := 0) hx hb dX0_lays_140 (by decide) ?_
    exact co_zret S hr hlocks hH hE hS rfl hw dX0_lays_141
  · have hw := hw.2 c49
    refine lv_iload hx hb dX0_lays_106 (lv_at hl 1 rfl) ?_
    refine lv_bipush (v := 24) hx hb dX0_lays_108 (by decide) ?_
    refine lv_icmp_ge (tgt := 140) hx hb dX0_lays_110 (by decide) (fun c50 => ?_) (fun c50 => ?_)
    · have hw := hw.1 c50
      refine lv_iconst (v := 0) hx hb dX0_lays_140 (by decide) ?_
      exact co_zret S hr hlocks hH hE hS rfl hw dX0_lays_141
    · have hw := hw.2 c50
      refine lv_iload hx hb dX0_lays_113 (lv_at hl 2 rfl) ?_
      refine lv_iload hx hb dX0_lays_115 (lv_at hl 1 rfl) ?_
      refine lv_icmp_gt (tgt := 140) hx hb dX0_lays_117 (by decide) (fun c51 => ?_) (fun c51 => ?_)
      · have hw := hw.1 c51
        refine lv_iconst (v := 0) hx hb dX0_lays_140 (by decide) ?_
        exact co_zret S hr hlocks hH hE hS rfl hw dX0_lays_141
      · have hw := hw.2 c51
        refine lv_iload hx hb dX0_lays_120 (lv_at hl 3 rfl) ?_
        refine lv_if_ne (tgt := 142) hx hb dX0_lays_122 (by decide) (fun c52 => ?_) (fun c52 => ?_)
        · have hw := hw.2 c52
          exact r0_lays_142 S hr hlocks hK hA hkb _ _ _ _ _ _ _ _ _ hw hE hk47 hk48 _ _ hH hS _ (lv_sub hl [4, 5, 0, 6, 7, 3, 2, 1] rfl)
        · have hw := hw.1 c52
          refine lv_iload_n hx hb dX0_lays_125 rfl (lv_at hl 0 rfl) ?_
          refine lv_iconst (v := 2) hx hb dX0_lays_126 (by decide) ?_
          refine lv_iload hx hb dX0_lays_127 (lv_at hl 1 rfl) ?_
          refine lv_iload hx hb dX0_lays_129 (lv_at hl 2 rfl) ?_
          refine lv_isub hx hb dX0_lays_131 ?_
          refine lv_iconst (v := 1) hx hb dX0_lays_132 (by decide) ?_
          refine lv_iadd hx hb dX0_lays_133 ?_
          refine lv_imul hx hb dX0_lays_134 ?_
          refine lv_iadd hx hb dX0_lays_135 ?_
          refine lv_iload_n hx hb dX0_lays_136 rfl (lv_at hl 6 rfl) ?_
          refine lv_icmp_le (tgt := 142) hx hb dX0_lays_137 (by decide) (fun c83 => ?_) (fun c83 => ?_)
          · have hw := hw.1 c83
            exact r0_lays_142 S hr hlocks hK hA hkb _ _ _ _ _ _ _ _ _ hw hE hk47 hk48 _ _ hH hS _ (lv_sub hl [4, 5, 0, 6, 7, 3, 2, 1] rfl)
          · have hw := hw.2 c83
            refine lv_iconst (v := 0) hx hb dX0_lays_140 (by decide) ?_
            exact co_zret S hr hlocks hH hE hS rfl hw dX0_lays_141
def b0_lays_38 (post : Int32 → Mm → Prop)  (kb : Mm → Nat → Nat → Int32 → Int32 → Prop) (M : Mm) (a0 : Nat) (a1 : Nat) (x2 : Int32) (x3 : Int32) : Prop :=
  (x3 ≤ x2 → post 1 M) ∧ (¬ x3 ≤ x2 → ((x2 + 6) ≤ x3 → w2_at (fun (r25 : Int32) (M24 : Mm) => w2_at (fun (r31 : Int32) (M30 : Mm) => (r31 = 1 → w0_lays_76 post kb M30 a0 a1 x2 x3 r25 1) ∧ (¬ r31 = 1 → w0_lays_76 post kb M30 a0 a1 x2 x3 r25 0)) M24 a0 (x2 + 1)) M a0 x2) ∧ (¬ (x2 + 6) ≤ x3 → post 0 M))
def w0_lays_38 (post : Int32 → Mm → Prop)  : Nat → Mm → Nat → Nat → Int32 → Int32 → Prop
  | 0 => fun _ _ _ _ _ => False
  | n + 1 => b0_lays_38 post  (w0_lays_38 post  n)
set_option maxHeartbeats 4000000 in
set_option maxRecDepth 100000 in
theorem r0_lays_38 {p : Program} {l : Launch} {e : Env} {s : State} {m : MethodId} {args : Array Value} {below : List Frame} {meth : Method} {c : Code} {g : CG} {AD : Nat → Prop} {M0 : Mm} (S : CallFix p m c cX0_lays 9 s args lw_all RX0) (hr : meth.sig.returnType = (some .boolean)) (hlocks : meth.locks = false) (hK : KC g s) (hA : ∀ q, s.heap.size ≤ q → AD q) {post : Int32 → Mm → Prop}  : ∀ n : Nat, ∀ (M : Mm) (a0 : Nat) (a1 : Nat) (x2 : Int32) (x3 : Int32), w0_lays_38 post  n M a0 a1 x2 x3 → Ext M0 M → mK M a0 = 3 → mK M a1 = 6 → ∀ (H : Heap) (locs : List Loc), HC g AD M H → va_S AD s.heap H locs → ∀ (ls : Array Slot), lv_has ls 9 [(0, .ref a0), (1, .ref a1), (2, .int x2), (3, .int x3)] → W p l e rm0_lays s m args below meth c H locs 0 0 (MQ below (CQi g AD M0 post) args s 0 0 AD) (F0 m 38 ls []) := by
  have hx := S.1
  have hb := S.2.1
  have hown := S.2.2.2.1
  have hts := S.2.2.2.2
  intro n
  induction n with
  | zero =>
    intro M a0 a1 x2 x3 hw
    exact hw.elim
  | succ n hkb =>
    intro M a0 a1 x2 x3 hw hE hk_a0 hk_a1 H locs hH hS ls hl
    unfold w0_lays_38 b0_lays_38 at hw
    refine lv_iload_n hx hb dX0_lays_38 rfl (lv_at hl 2 rfl) ?_
    refine lv_iload_n hx hb dX0_lays_39 rfl (lv_at hl 3 rfl) ?_
    refine lv_icmp_ge (tgt := 208) hx hb dX0_lays_40 (by decide) (fun c22 => ?_) (fun c22 => ?_)
    · have hw := hw.1 c22
      refine lv_iconst (v := 1) hx hb dX0_lays_208 (by decide) ?_
      exact co_zret S hr hlocks hH hE hS rfl hw dX0_lays_209
    · have hw := hw.2 c22
      refine lv_iload_n hx hb dX0_lays_43 rfl (lv_at hl 2 rfl) ?_
      refine lv_bipush (v := 6) hx hb dX0_lays_44 (by decide) ?_
      refine lv_iadd hx hb dX0_lays_46 ?_
      refine lv_iload_n hx hb dX0_lays_47 rfl (lv_at hl 3 rfl) ?_
      refine lv_icmp_le (tgt := 53) hx hb dX0_lays_48 (by decide) (fun c23 => ?_) (fun c23 => ?_)
      · have hw := hw.1 c23
        refine lv_aload_n hx hb dX0_lays_53 rfl (lv_at hl 0 rfl) ?_
        refine lv_iload_n hx hb dX0_lays_54 rfl (lv_at hl 2 rfl) ?_
        refine co_calli (va_runV (As := [.int x2]) (rest := []) S (m2_at l g AD M a0 x2 _ hk_a0 hw) (cwV 1 hts (lw_V q644 q603 q604 q56 q605) rfl rfl rfl (by decide +kernel) ⟨Nat.le_of_ble_eq_true rfl, Nat.le_of_ble_eq_true rfl⟩) ⟨co_blind, co_recv hK hH (c := 2) (by decide) hk_a0, co_pre hK hH hA hS⟩ rfl rfl hl.1 rfl (lv_room (Nat.le_of_ble_eq_true rfl)) dX0_lays_55 ⟨Nat.le_refl _, Nat.le_refl _⟩) hS (fun r25 M24 H locs hw hH hE26 hS => ?_)
        have hk28 := hE26.k hk_a0 (by decide)
        have hk29 := hE26.k hk_a1 (by decide)
        have hE := hE.tr hE26
        refine lv_istore (lv' := [(4, .int r25), (0, .ref a0), (1, .ref a1), (2, .int x2), (3, .int x3)]) hx hb dX0_lays_58 hl (by decide) rfl (fun ls hl => ?_)
        refine lv_aload_n hx hb dX0_lays_60 rfl (lv_at hl 1 rfl) ?_
        refine lv_iload_n hx hb dX0_lays_61 rfl (lv_at hl 3 rfl) ?_
        refine lv_iconst (v := 1) hx hb dX0_lays_62 (by decide) ?_
        refine lv_iadd hx hb dX0_lays_63 ?_
        refine co_calli (va_runV (As := [.int (x2 + 1)]) (rest := []) S (m2_at l g AD M24 a0 (x2 + 1) _ hk28 hw) (cwV 1 hts (lw_V q644 q603 q604 q56 q605) rfl rfl rfl (by decide +kernel) ⟨Nat.le_of_ble_eq_true rfl, Nat.le_of_ble_eq_true rfl⟩) ⟨co_blind, co_recv hK hH (c := 2) (by decide) hk28, co_pre hK hH hA hS⟩ rfl rfl hl.1 rfl (lv_room (Nat.le_of_ble_eq_true rfl)) dX0_lays_64 ⟨Nat.le_refl _, Nat.le_refl _⟩) hS (fun r31 M30 H locs hw hH hE32 hS => ?_)
        have hk34 := hE32.k hk28 (by decide)
        have hk35 := hE32.k hk29 (by decide)
        have hE := hE.tr hE32
        refine lv_iconst (v := 1) hx hb dX0_lays_67 (by decide) ?_
        refine lv_icmp_ne (tgt := 75) hx hb dX0_lays_68 (by decide) (fun c36 => ?_) (fun c36 => ?_)
        · have hw := hw.2 c36
          refine lv_iconst (v := 0) hx hb dX0_lays_75 (by decide) ?_
          exact r0_lays_76 S hr hlocks hK hA hkb _ _ _ _ _ _ _ hw hE hk34 hk35 _ _ hH hS _ (lv_sub hl [1, 2, 3, 4, 0] rfl)
        · have hw := hw.1 c36
          refine lv_iconst (v := 1) hx hb dX0_lays_71 (by decide) ?_
          refine lv_goto (tgt := 76) hx hb dX0_lays_72 (by decide) ?_
          exact r0_lays_76 S hr hlocks hK hA hkb _ _ _ _ _ _ _ hw hE hk34 hk35 _ _ hH hS _ (lv_sub hl [1, 2, 3, 4, 0] rfl)
      · have hw := hw.2 c23
        refine lv_iconst (v := 0) hx hb dX0_lays_51 (by decide) ?_
        exact co_zret S hr hlocks hH hE hS rfl hw dX0_lays_52
def w0_lays (post : Int32 → Mm → Prop) (M : Mm) (a0 : Nat) (a1 : Nat) : Prop :=
  ∀ y3_1 : Int32, y3_1 = (mI M 301 a0 0) - 2 → ((y3_1 < 11 → post 0 M) ∧ (¬ y3_1 < 11 → w2_at (fun (r4 : Int32) (M3 : Mm) => (r4 ≤ 8 → w2_at (fun (r11 : Int32) (M10 : Mm) => w5_scroll (fun (M16 : Mm) => ∃ n, w0_lays_38 post  n M16 a0 a1 11 y3_1) M10 a1 r11) M3 a0 10) ∧ (¬ r4 ≤ 8 → post 0 M3)) M a0 10))
set_option maxHeartbeats 4000000 in
set_option maxRecDepth 100000 in
theorem m0_lays (l : Launch) (g : CG) (AD : Nat → Prop) (M : Mm) (a0 : Nat) (a1 : Nat) (post : Int32 → Mm → Prop) (hk_a0 : mK M a0 = 3) (hk_a1 : mK M a1 = 6) (hw : w0_lays post M a0 a1) : Met l yX0_lays (ws_ yX0_lays cX0_lays 9 (some .boolean)) rm0_lays (CPc g AD M [.ref a0, .ref a1]) (CQi g AD M post) 0 0 AD := by
  refine Met.ofW (cc := cX0_lays) (maxL := 9) (ret := (some .boolean)) (by decide) rfl ?_
  intro p e s m args below meth c s₁ B hml hv
  obtain ⟨rfl, hK, hH, hA⟩ := hv
  have hx := B.exec
  have hb := B.bytes
  have hr : meth.sig.returnType = (some .boolean) := B.returns
  have hts := atoms_spec (ws := ws_ yX0_lays cX0_lays 9 (some .boolean)) B.pre
  have hts : ∀ w ∈ lw_all, w.before _ s = true := fun w h => hts w (List.mem_cons_of_mem _ h)
  have hown : s.vm.findClass RX0 = some m.cls := findClass_of_methodNamed B.named
  have hlocks : meth.locks = false := B.notSynchronized
  have S : CallFix p m c cX0_lays 9 s _ lw_all RX0 := ⟨hx, hb, hml, hown, hts⟩
  have hS : va_S AD s.heap s.heap [] := va_S.rf
  have hE : Ext M M := Ext.rf
  have hl := lv_entry ([.ref a0, .ref a1]) (n := 9) (Nat.le_of_ble_eq_true rfl)
  rw [lg_entry_eq]
  generalize (lg_sl ([.ref a0, .ref a1]) ++ List.replicate (9 - (lg_sl ([.ref a0, .ref a1])).length) Slot.unset).toArray = ls at hl ⊢
  have hl : lv_has ls 9 [(0, .ref a0), (1, .ref a1)] := hl
  unfold w0_lays at hw
  refine lv_bipush (v := 11) hx hb dX0_lays_0 (by decide) ?_
  refine lv_istore_n (lv' := [(2, .int 11), (0, .ref a0), (1, .ref a1)]) hx hb dX0_lays_2 rfl hl (by decide) rfl (fun ls hl => ?_)
  refine lv_aload_n hx hb dX0_lays_3 rfl (lv_at hl 1 rfl) ?_
  refine co_geti S hK hH 2 1 301 (by decide) ⟨by decide, rfl, rfl, rfl⟩ (Or.inr ⟨_, q100⟩) hk_a0 dX0_lays_4 ?_
  refine lv_iconst (v := 2) hx hb dX0_lays_7 (by decide) ?_
  refine lv_isub hx hb dX0_lays_8 ?_
  refine lv_topi (fun y3_1 ey3_1 => ?_)
  have hw := hw y3_1 ey3_1
  refine lv_istore_n (lv' := [(3, .int y3_1), (2, .int 11), (0, .ref a0), (1, .ref a1)]) hx hb dX0_lays_9 rfl hl (by decide) rfl (fun ls hl => ?_)
  refine lv_iload_n hx hb dX0_lays_10 rfl (lv_at hl 0 rfl) ?_
  refine lv_iload_n hx hb dX0_lays_11 rfl (lv_at hl 1 rfl) ?_
  refine lv_icmp_lt (tgt := 26) hx hb dX0_lays_12 (by decide) (fun c2 => ?_) (fun c2 => ?_)
  · have hw := hw.1 c2
    refine lv_iconst (v := 0) hx hb dX0_lays_26 (by decide) ?_
    exact co_zret S hr hlocks hH hE hS rfl hw dX0_lays_27
  · have hw := hw.2 c2
    refine lv_aload_n hx hb dX0_lays_15 rfl (lv_at hl 2 rfl) ?_
    refine lv_bipush (v := 10) hx hb dX0_lays_16 (by decide) ?_
    refine co_calli (va_runV (As := [.int 10]) (rest := []) S (m2_at l g AD M a0 10 _ hk_a0 hw) (cwV 1 hts (lw_V q644 q603 q604 q56 q605) rfl rfl rfl (by decide +kernel) ⟨Nat.le_of_ble_eq_true rfl, Nat.le_of_ble_eq_true rfl⟩) ⟨co_blind, co_recv hK hH (c := 2) (by decide) hk_a0, co_pre hK hH hA hS⟩ rfl rfl hl.1 rfl (lv_room (Nat.le_of_ble_eq_true rfl)) dX0_lays_18 ⟨Nat.le_refl _, Nat.le_refl _⟩) hS (fun r4 M3 H locs hw hH hE5 hS => ?_)
    have hk7 := hE5.k hk_a0 (by decide)
    have hk8 := hE5.k hk_a1 (by decide)
    have hE := hE.tr hE5
    refine lv_bipush (v := 8) hx hb dX0_lays_21 (by decide) ?_
    refine lv_icmp_le (tgt := 28) hx hb dX0_lays_23 (by decide) (fun c9 => ?_) (fun c9 => ?_)
    · have hw := hw.1 c9
      refine lv_aload_n hx hb dX0_lays_28 rfl (lv_at hl 3 rfl) ?_
      refine lv_aload_n hx hb dX0_lays_29 rfl (lv_at hl 2 rfl) ?_
      refine lv_bipush (v := 10) hx hb dX0_lays_30 (by decide) ?_
      refine co_calli (va_runV (As := [.int 10]) (rest := [.ref a1]) S (m2_at l g AD M3 a0 10 _ hk7 hw) (cwV 1 hts (lw_V q644 q603 q604 q56 q605) rfl rfl rfl (by decide +kernel) ⟨Nat.le_of_ble_eq_true rfl, Nat.le_of_ble_eq_true rfl⟩) ⟨co_blind, co_recv hK hH (c := 2) (by decide) hk7, co_pre hK hH hA hS⟩ rfl rfl hl.1 rfl (lv_room (Nat.le_of_ble_eq_true rfl)) dX0_lays_32 ⟨Nat.le_refl _, Nat.le_refl _⟩) hS (fun r11 M10 H locs hw hH hE12 hS => ?_)
      have hk14 := hE12.k hk7 (by decide)
      have hk15 := hE12.k hk8 (by decide)
      have hE := hE.tr hE12
      refine co_callv (va_runV (As := [.int r11]) (rest := []) S (m5_scroll l g AD M10 a1 r11 _ hk15 hw) (cwV 1 hts (lw_V q509 q412 q413 q59 q414) rfl rfl rfl (by decide +kernel) ⟨Nat.le_of_ble_eq_true rfl, Nat.le_of_ble_eq_true rfl⟩) ⟨co_blind, co_recv hK hH (c := 5) (by decide) hk15, co_pre hK hH hA hS⟩ rfl rfl hl.1 rfl (lv_room (Nat.le_of_ble_eq_true rfl)) dX0_lays_35 ⟨Nat.le_refl _, Nat.le_refl _⟩) hS (fun M16 H locs hw hH hE18 hS => ?_)
      have hk20 := hE18.k hk14 (by decide)
      have hk21 := hE18.k hk15 (by decide)
      have hE := hE.tr hE18
      obtain ⟨n, hw⟩ := hw
      refine r0_lays_38 S hr hlocks hK hA  n _ _ _ _ _ hw hE hk20 hk21 _ _ hH hS _ (lv_sub hl [2, 3, 1, 0] rfl)
    · have hw := hw.2 c9
      refine lv_iconst (v := 0) hx hb dX0_lays_26 (by decide) ?_
      exact co_zret S hr hlocks hH hE hS rfl hw dX0_lays_27
/-! FarTypewriter.settles(LFarTypewriter$State;)V -/
abbrev rm0_settles : Room := { frames := 2, cells := 0, slots := 0, locals := 41 }
def b0_settles_2 (post : Mm → Prop) (k119 : Mm → Nat → Int32 → Prop) (kb : Mm → Nat → Nat → Int32 → Prop) (M : Mm) (a0 : Nat) (a1 : Nat) (x2 : Int32) : Prop :=
  ((mI M 128 a0 0) ≤ x2 → k119 M a0 x2) ∧ (¬ (mI M 128 a0 0) ≤ x2 → mK M (mP M 127 a0 0) = 28 ∧ (vp_in x2 60 ∧ (mK M (mP M 28 (mP M 127 a0 0) x2.toNatClampNeg) = 9 ∧ (((mI M 502 a1 0) < (mI M 900 (mP M 28 (mP M 127 a0 0) x2.toNatClampNeg) 0) → k119 M a0 x2) ∧ (¬ (mI M 502 a1 0) < (mI M 900 (mP M 28 (mP M 127 a0 0) x2.toNatClampNeg) 0) → mK M (mP M 127 a0 0) = 28 ∧ (vp_in x2 60 ∧ (mK M (mP M 28 (mP M 127 a0 0) x2.toNatClampNeg) = 9 ∧ (w8_isRight (fun (r10 : Int32) (M9 : Mm) => (r10 = 0 → mK M9 (mP M9 103 a0 0) = 24 ∧ (vp_in 8 10 ∧ (vp_in 8 10 ∧ (∀ M33 : Mm, M33 = sI M9 24 (mP M9 103 a0 0) (8 : Int32).toNatClampNeg ((mI M9 24 (mP M9 103 a0 0) (8 : Int32).toNatClampNeg) + 1) → (mK M33 (mP M33 103 a0 0) = 24 ∧ (vp_in 9 10 ∧ (vp_in 9 10 ∧ (∀ M40 : Mm, M40 = sI M33 24 (mP M33 103 a0 0) (9 : Int32).toNatClampNeg ((mI M33 24 (mP M33 103 a0 0) (9 : Int32).toNatClampNeg) + ((mI M33 128 a0 0) - x2)) → (∀ M44 : Mm, M44 = sI M40 128 a0 0 0 → (∀ M48 : Mm, M48 = sI M44 129 a0 0 ((mI M44 129 a0 0) + 1) → (post M48))))))))))) ∧ (¬ r10 = 0 → mK M9 (mP M9 103 a0 0) = 24 ∧ (vp_in 7 10 ∧ (vp_in 7 10 ∧ (∀ M19 : Mm, M19 = sI M9 24 (mP M9 103 a0 0) (7 : Int32).toNatClampNeg ((mI M9 24 (mP M9 103 a0 0) (7 : Int32).toNatClampNeg) + 1) → (mK M19 (mP M19 127 a0 0) = 28 ∧ (vp_in x2 60 ∧ (mK M19 (mP M19 28 (mP M19 127 a0 0) x2.toNatClampNeg) = 9 ∧ (∀ M26 : Mm, M26 = sI M19 130 a0 0 (if (mI M19 130 a0 0) < (mI M19 901 (mP M19 28 (mP M19 127 a0 0) x2.toNatClampNeg) 0) then (mI M19 901 (mP M19 28 (mP M19 127 a0 0) x2.toNatClampNeg) 0) else (mI M19 130 a0 0)) → (kb M26 a0 a1 (x2 + 1))))))))))) M (mP M 28 (mP M 127 a0 0) x2.toNatClampNeg) a1))))))))
def w0_settles_2 (post : Mm → Prop) (k119 : Mm → Nat → Int32 → Prop) : Nat → Mm → Nat → Nat → Int32 → Prop
  | 0 => fun _ _ _ _ => False
  | n + 1 => b0_settles_2 post k119 (w0_settles_2 post k119 n)
set_option maxHeartbeats 4000000 in
set_option maxRecDepth 100000 in
theorem r0_settles_2 {p : Program} {l : Launch} {e : Env} {s : State} {m : MethodId} {args : Array Value} {below : List Frame} {meth : Method} {c : Code} {g : CG} {AD : Nat → Prop} {M0 : Mm} (S : CallFix p m c cX0_settles 4 s args lw_all RX0) (hr : meth.sig.returnType = none) (hlocks : meth.locks = false) (hK : KC g s) (hA : ∀ q, s.heap.size ≤ q → AD q) {post : Mm → Prop} {k119 : Mm → Nat → Int32 → Prop} (hk119 : ∀ (M : Mm) (a0 : Nat) (x2 : Int32), k119 M a0 x2 → Ext M0 M → mK M a0 = 1 → ∀ (H : Heap) (locs : List Loc), HC g AD M H → va_S AD s.heap H locs → ∀ (ls : Array Slot), lv_has ls 4 [(0, .ref a0), (2, .int x2)] → W p l e rm0_settles s m args below meth c H locs 0 0 (MQ below (CQv g AD M0 post) args s 0 0 AD) (F0 m 119 ls [])) : ∀ n : Nat, ∀ (M : Mm) (a0 : Nat) (a1 : Nat) (x2 : Int32), w0_settles_2 post k119 n M a0 a1 x2 → Ext M0 M → mK M a0 = 1 → mK M a1 = 5 → ∀ (H : Heap) (locs : List Loc), HC g AD M H → va_S AD s.heap H locs → ∀ (ls : Array Slot), lv_has ls 4 [(0, .ref a0), (1, .ref a1), (2, .int x2)] → W p l e rm0_settles s m args below meth c H locs 0 0 (MQ below (CQv g AD M0 post) args s 0 0 AD) (F0 m 2 ls []) := by
  have hx := S.1
  have hb := S.2.1
  have hown := S.2.2.2.1
  have hts := S.2.2.2.2
  intro n
  induction n with
  | zero =>
    intro M a0 a1 x2 hw
    exact hw.elim
  | succ n hkb =>
    intro M a0 a1 x2 hw hE hk_a0 hk_a1 H locs hH hS ls hl
    unfold w0_settles_2 b0_settles_2 at hw
    refine lv_iload_n hx hb dX0_settles_2 rfl (lv_at hl 2 rfl) ?_
    refine lv_aload_n hx hb dX0_settles_3 rfl (lv_at hl 0 rfl) ?_
    refine co_geti S hK hH 0 28 128 (by decide) ⟨by decide, rfl, rfl, rfl⟩ (Or.inl q289) hk_a0 dX0_settles_4 ?_
    refine lv_icmp_ge (tgt := 119) hx hb dX0_settles_7 (by decide) (fun c1 => ?_) (fun c1 => ?_)
    · have hw := hw.1 c1
      exact hk119 _ _ _ hw hE hk_a0 _ _ hH hS _ (lv_sub hl [0, 2] rfl)
    · have hw := hw.2 c1
      refine lv_aload_n hx hb dX0_settles_10 rfl (lv_at hl 0 rfl) ?_
      have hk2 := hw.1
      have hw := hw.2
      refine co_getr S hK hH 0 27 127 (by decide) ⟨by decide, rfl, rfl, rfl⟩ (Or.inl q288) hk_a0 (by rw [hk2]; decide) dX0_settles_11 ?_
      refine lv_iload_n hx hb dX0_settles_14 rfl (lv_at hl 2 rfl) ?_
      have hin3 := hw.1
      have hw := hw.2
      have hk4 := hw.1
      have hw := hw.2
      refine co_aald S hK hH 8 28 ⟨by decide, rfl, rfl⟩ hk2 hin3 (by rw [hk4]; decide) dX0_settles_15 ?_
      refine co_geti S hK hH 8 0 900 (by decide) ⟨by decide, rfl, rfl, rfl⟩ (Or.inr ⟨_, q214⟩) hk4 dX0_settles_16 ?_
      refine lv_aload_n hx hb dX0_settles_19 rfl (lv_at hl 1 rfl) ?_
      refine co_geti S hK hH 4 2 502 (by decide) ⟨by decide, rfl, rfl, rfl⟩ (Or.inr ⟨_, q176⟩) hk_a1 dX0_settles_20 ?_
      refine lv_icmp_gt (tgt := 119) hx hb dX0_settles_23 (by decide) (fun c5 => ?_) (fun c5 => ?_)
      · have hw := hw.1 c5
        exact hk119 _ _ _ hw hE hk_a0 _ _ hH hS _ (lv_sub hl [0, 2] rfl)
      · have hw := hw.2 c5
        refine lv_aload_n hx hb dX0_settles_26 rfl (lv_at hl 0 rfl) ?_
        have hk6 := hw.1
        have hw := hw.2
        refine co_getr S hK hH 0 27 127 (by decide) ⟨by decide, rfl, rfl, rfl⟩ (Or.inl q288) hk_a0 (by rw [hk6]; decide) dX0_settles_27 ?_
        refine lv_iload_n hx hb dX0_settles_30 rfl (lv_at hl 2 rfl) ?_
        have hin7 := hw.1
        have hw := hw.2
        have hk8 := hw.1
        have hw := hw.2
        refine co_aald S hK hH 8 28 ⟨by decide, rfl, rfl⟩ hk6 hin7 (by rw [hk8]; decide) dX0_settles_31 ?_
        refine lv_aload_n hx hb dX0_settles_32 rfl (lv_at hl 1 rfl) ?_
        refine co_calli (va_runV (As := [.ref a1]) (rest := []) S (m8_isRight l g AD M (mP M 28 (mP M 127 a0 0) x2.toNatClampNeg) a1 _ hk8 hk_a1 hw) (cwV 1 hts (lw_V q702 q703 q704 q62 q705) rfl rfl rfl (by decide +kernel) ⟨Nat.le_of_ble_eq_true rfl, Nat.le_of_ble_eq_true rfl⟩) ⟨co_blind, co_recv hK hH (c := 8) (by decide) hk8, co_pre hK hH hA hS⟩ rfl rfl hl.1 rfl (lv_room (Nat.le_of_ble_eq_true rfl)) dX0_settles_33 ⟨Nat.le_refl _, Nat.le_refl _⟩) hS (fun r10 M9 H locs hw hH hE11 hS => ?_)
        have hk13 := hE11.k hk_a0 (by decide)
        have hk14 := hE11.k hk_a1 (by decide)
        have hE := hE.tr hE11
        refine lv_if_ne (tgt := 82) hx hb dX0_settles_36 (by decide) (fun c15 => ?_) (fun c15 => ?_)
        · have hw := hw.2 c15
          refine lv_aload_n hx hb dX0_settles_82 rfl (lv_at hl 0 rfl) ?_
          have hk16 := hw.1
          have hw := hw.2
          refine co_getr S hK hH 0 3 103 (by decide) ⟨by decide, rfl, rfl, rfl⟩ (Or.inl q264) hk13 (by rw [hk16]; decide) dX0_settles_83 ?_
          refine lv_bipush (v := 7) hx hb dX0_settles_86 (by decide) ?_
          refine lv_dup2_11 hx hb dX0_settles_88 rfl rfl ?_
          have hin17 := hw.1
          have hw := hw.2
          refine co_iald S hK hH 4 24 ⟨by decide, rfl, rfl⟩ hk16 hin17 dX0_settles_89 ?_
          refine lv_iconst (v := 1) hx hb dX0_settles_90 (by decide) ?_
          refine lv_iadd hx hb dX0_settles_91 ?_
          have hin18 := hw.1
          have hw := hw.2
          refine co_iast S hK hH hS 4 24 ⟨by decide, rfl, rfl⟩ hk16 hin18 dX0_settles_92 (fun H locs hH hS => ?_)
          obtain ⟨M19, eM19⟩ : ∃ y : Mm, y = sI M9 24 (mP M9 103 a0 0) (7 : Int32).toNatClampNeg ((mI M9 24 (mP M9 103 a0 0) (7 : Int32).toNatClampNeg) + 1) := ⟨_, rfl⟩
          have hw := hw M19 eM19
          rw [← eM19] at hH
          have hE20 : Ext M9 M19 := by rw [eM19]; exact Ext.sI
          have hk21 := hE20.k hk13 (by decide)
          have hk22 := hE20.k hk14 (by decide)
          have hE := hE.tr hE20
          refine lv_aload_n hx hb dX0_settles_93 rfl (lv_at hl 0 rfl) ?_
          refine lv_aload_n hx hb dX0_settles_94 rfl (lv_at hl 0 rfl) ?_
          refine co_geti S hK hH 0 30 130 (by decide) ⟨by decide, rfl, rfl, rfl⟩ (Or.inl q291) hk21 dX0_settles_95 ?_
          refine lv_aload_n hx hb dX0_settles_98 rfl (lv_at hl 0 rfl) ?_
          have hk23 := hw.1
          have hw := hw.2
          refine co_getr S hK hH 0 27 127 (by decide) ⟨by decide, rfl, rfl, rfl⟩ (Or.inl q288) hk21 (by rw [hk23]; decide) dX0_settles_99 ?_
          refine lv_iload_n hx hb dX0_settles_102 rfl (lv_at hl 2 rfl) ?_
          have hin24 := hw.1
          have hw := hw.2
          have hk25 := hw.1
          have hw := hw.2
          refine co_aald S hK hH 8 28 ⟨by decide, rfl, rfl⟩ hk23 hin24 (by rw [hk25]; decide) dX0_settles_103 ?_
          refine co_geti S hK hH 8 1 901 (by decide) ⟨by decide, rfl, rfl, rfl⟩ (Or.inr ⟨_, q216⟩) hk25 dX0_settles_104 ?_
          refine va_mmax hx hb (S.2.2.1.trans hl.1.symm) hown (hts _ q693) (hts _ q676) (hts _ q68) (hts _ q677) (Nat.le_of_ble_eq_true rfl) (Nat.le_of_ble_eq_true rfl) (Nat.le_of_ble_eq_true rfl) (Nat.le_of_ble_eq_true rfl) dX0_settles_107 ?_
          refine co_puti S hK hH hS 0 30 130 (by decide) ⟨by decide, rfl, rfl, rfl, rfl⟩ (Or.inl q291) hk21 ⟨rfl, rfl⟩ dX0_settles_110 (fun H locs hH hS => ?_)
          obtain ⟨M26, eM26⟩ : ∃ y : Mm, y = sI M19 130 a0 0 (if (mI M19 130 a0 0) < (mI M19 901 (mP M19 28 (mP M19 127 a0 0) x2.toNatClampNeg) 0) then (mI M19 901 (mP M19 28 (mP M19 127 a0 0) x2.toNatClampNeg) 0) else (mI M19 130 a0 0)) := ⟨_, rfl⟩
          have hw := hw M26 eM26
          rw [← eM26] at hH
          have hE27 : Ext M19 M26 := by rw [eM26]; exact Ext.sI
          have hk28 := hE27.k hk21 (by decide)
          have hk29 := hE27.k hk22 (by decide)
          have hE := hE.tr hE27
          refine lv_iinc (v := x2 + 1) (lv' := [(2, .int (x2 + 1)), (0, .ref a0), (1, .ref a1)]) hx hb dX0_settles_113 hl (k := 2) rfl rfl (by decide) rfl (fun ls hl => ?_)
          refine lv_goto (tgt := 2) hx hb dX0_settles_116 (by decide) ?_
          exact hkb _ _ _ _ hw hE hk28 hk29 _ _ hH hS _ (lv_sub hl [1, 2, 0] rfl)
        · have hw := hw.1 c15
          refine lv_aload_n hx hb dX0_settles_39 rfl (lv_at hl 0 rfl) ?_
          have hk30 := hw.1
          have hw := hw.2
          refine co_getr S hK hH 0 3 103 (by decide) ⟨by decide, rfl, rfl, rfl⟩ (Or.inl q264) hk13 (by rw [hk30]; decide) dX0_settles_40 ?_
          refine lv_bipush (v := 8) hx hb dX0_settles_43 (by decide) ?_
          refine lv_dup2_11 hx hb dX0_settles_45 rfl rfl ?_
          have hin31 := hw.1
          have hw := hw.2
          refine co_iald S hK hH 4 24 ⟨by decide, rfl, rfl⟩ hk30 hin31 dX0_settles_46 ?_
          refine lv_iconst (v := 1) hx hb dX0_settles_47 (by decide) ?_
          refine lv_iadd hx hb dX0_settles_48 ?_
          have hin32 := hw.1
          have hw := hw.2
          refine co_iast S hK hH hS 4 24 ⟨by decide, rfl, rfl⟩ hk30 hin32 dX0_settles_49 (fun H locs hH hS => ?_)
          obtain ⟨M33, eM33⟩ : ∃ y : Mm, y = sI M9 24 (mP M9 103 a0 0) (8 : Int32).toNatClampNeg ((mI M9 24 (mP M9 103 a0 0) (8 : Int32).toNatClampNeg) + 1) := ⟨_, rfl⟩
          have hw := hw M33 eM33
          rw [← eM33] at hH
          have hE34 : Ext M9 M33 := by rw [eM33]; exact Ext.sI
          have hk35 := hE34.k hk13 (by decide)
          have hk36 := hE34.k hk14 (by decide)
          have hE := hE.tr hE34
          refine lv_aload_n hx hb dX0_settles_50 rfl (lv_at hl 0 rfl) ?_
          have hk37 := hw.1
          have hw := hw.2
          refine co_getr S hK hH 0 3 103 (by decide) ⟨by decide, rfl, rfl, rfl⟩ (Or.inl q264) hk35 (by rw [hk37]; decide) dX0_settles_51 ?_
          refine lv_bipush (v := 9) hx hb dX0_settles_54 (by decide) ?_
          refine lv_dup2_11 hx hb dX0_settles_56 rfl rfl ?_
          have hin38 := hw.1
          have hw := hw.2
          refine co_iald S hK hH 4 24 ⟨by decide, rfl, rfl⟩ hk37 hin38 dX0_settles_57 ?_
          refine lv_aload_n hx hb dX0_settles_58 rfl (lv_at hl 0 rfl) ?_
          refine co_geti S hK hH 0 28 128 (by decide) ⟨by decide, rfl, rfl, rfl⟩ (Or.inl q289) hk35 dX0_settles_59 ?_
          refine lv_iload_n hx hb dX0_settles_62 rfl (lv_at hl 2 rfl) ?_
          refine lv_isub hx hb dX0_settles_63 ?_
          refine lv_iadd hx hb dX0_settles_64 ?_
          have hin39 := hw.1
          have hw := hw.2
          refine co_iast S hK hH hS 4 24 ⟨by decide, rfl, rfl⟩ hk37 hin39 dX0_settles_65 (fun H locs hH hS => ?_)
          obtain ⟨M40, eM40⟩ : ∃ y : Mm, y = sI M33 24 (mP M33 103 a0 0) (9 : Int32).toNatClampNeg ((mI M33 24 (mP M33 103 a0 0) (9 : Int32).toNatClampNeg) + ((mI M33 128 a0 0) - x2)) := ⟨_, rfl⟩
          have hw := hw M40 eM40
          rw [← eM40] at hH
          have hE41 : Ext M33 M40 := by rw [eM40]; exact Ext.sI
          have hk42 := hE41.k hk35 (by decide)
          have hk43 := hE41.k hk36 (by decide)
          have hE := hE.tr hE41
          refine lv_aload_n hx hb dX0_settles_66 rfl (lv_at hl 0 rfl) ?_
          refine lv_iconst (v := 0) hx hb dX0_settles_67 (by decide) ?_
          refine co_puti S hK hH hS 0 28 128 (by decide) ⟨by decide, rfl, rfl, rfl, rfl⟩ (Or.inl q289) hk42 ⟨rfl, rfl⟩ dX0_settles_68 (fun H locs hH hS => ?_)
          obtain ⟨M44, eM44⟩ : ∃ y : Mm, y = sI M40 128 a0 0 0 := ⟨_, rfl⟩
          have hw := hw M44 eM44
          rw [← eM44] at hH
          have hE45 : Ext M40 M44 := by rw [eM44]; exact Ext.sI
          have hk46 := hE45.k hk42 (by decide)
          have hk47 := hE45.k hk43 (by decide)
          have hE := hE.tr hE45
          refine lv_aload_n hx hb dX0_settles_71 rfl (lv_at hl 0 rfl) ?_
          refine lv_dup hx hb dX0_settles_72 rfl ?_
          refine co_geti S hK hH 0 29 129 (by decide) ⟨by decide, rfl, rfl, rfl⟩ (Or.inl q290) hk46 dX0_settles_73 ?_
          refine lv_iconst (v := 1) hx hb dX0_settles_76 (by decide) ?_
          refine lv_iadd hx hb dX0_settles_77 ?_
          refine co_puti S hK hH hS 0 29 129 (by decide) ⟨by decide, rfl, rfl, rfl, rfl⟩ (Or.inl q290) hk46 ⟨rfl, rfl⟩ dX0_settles_78 (fun H locs hH hS => ?_)
          obtain ⟨M48, eM48⟩ : ∃ y : Mm, y = sI M44 129 a0 0 ((mI M44 129 a0 0) + 1) := ⟨_, rfl⟩
          have hw := hw M48 eM48
          rw [← eM48] at hH
          have hE49 : Ext M44 M48 := by rw [eM48]; exact Ext.sI
          have hk50 := hE49.k hk46 (by decide)
          have hk51 := hE49.k hk47 (by decide)
          have hE := hE.tr hE49
          exact co_vret S hr hlocks hH hE hS hw dX0_settles_81
def b0_settles_121 (post : Mm → Prop)  (kb : Mm → Nat → Int32 → Int32 → Prop) (M : Mm) (a0 : Nat) (x2 : Int32) (x3 : Int32) : Prop :=
  ((mI M 128 a0 0) ≤ x3 → ∀ M56 : Mm, M56 = sI M 128 a0 0 ((mI M 128 a0 0) - x2) → (post M56)) ∧ (¬ (mI M 128 a0 0) ≤ x3 → mK M (mP M 127 a0 0) = 28 ∧ (vp_in (x3 - x2) 60 ∧ (mK M (mP M 28 (mP M 127 a0 0) (x3 - x2).toNatClampNeg) = 9 ∧ (mK M (mP M 127 a0 0) = 28 ∧ (vp_in x3 60 ∧ (mK M (mP M 28 (mP M 127 a0 0) x3.toNatClampNeg) = 9 ∧ (w8_copies (fun (M65 : Mm) => kb M65 a0 x2 (x3 + 1)) M (mP M 28 (mP M 127 a0 0) (x3 - x2).toNatClampNeg) (mP M 28 (mP M 127 a0 0) x3.toNatClampNeg))))))))
def w0_settles_121 (post : Mm → Prop)  : Nat → Mm → Nat → Int32 → Int32 → Prop
  | 0 => fun _ _ _ _ => False
  | n + 1 => b0_settles_121 post  (w0_settles_121 post  n)
set_option maxHeartbeats 4000000 in
set_option maxRecDepth 100000 in
theorem r0_settles_121 {p : Program} {l : Launch} {e : Env} {s : State} {m : MethodId} {args : Array Value} {below : List Frame} {meth : Method} {c : Code} {g : CG} {AD : Nat → Prop} {M0 : Mm} (S : CallFix p m c cX0_settles 4 s args lw_all RX0) (hr : meth.sig.returnType = none) (hlocks : meth.locks = false) (hK : KC g s) (hA : ∀ q, s.heap.size ≤ q → AD q) {post : Mm → Prop}  : ∀ n : Nat, ∀ (M : Mm) (a0 : Nat) (x2 : Int32) (x3 : Int32), w0_settles_121 post  n M a0 x2 x3 → Ext M0 M → mK M a0 = 1 → ∀ (H : Heap) (locs : List Loc), HC g AD M H → va_S AD s.heap H locs → ∀ (ls : Array Slot), lv_has ls 4 [(0, .ref a0), (2, .int x2), (3, .int x3)] → W p l e rm0_settles s m args below meth c H locs 0 0 (MQ below (CQv g AD M0 post) args s 0 0 AD) (F0 m 121 ls []) := by
  have hx := S.1
  have hb := S.2.1
  have hown := S.2.2.2.1
  have hts := S.2.2.2.2
  intro n
  induction n with
  | zero =>
    intro M a0 x2 x3 hw
    exact hw.elim
  | succ n hkb =>
    intro M a0 x2 x3 hw hE hk_a0 H locs hH hS ls hl
    unfold w0_settles_121 b0_settles_121 at hw
    refine lv_iload_n hx hb dX0_settles_121 rfl (lv_at hl 2 rfl) ?_
    refine lv_aload_n hx hb dX0_settles_122 rfl (lv_at hl 0 rfl) ?_
    refine co_geti S hK hH 0 28 128 (by decide) ⟨by decide, rfl, rfl, rfl⟩ (Or.inl q289) hk_a0 dX0_settles_123 ?_
    refine lv_icmp_ge (tgt := 152) hx hb dX0_settles_126 (by decide) (fun c55 => ?_) (fun c55 => ?_)
    · have hw := hw.1 c55
      refine lv_aload_n hx hb dX0_settles_152 rfl (lv_at hl 0 rfl) ?_
      refine lv_dup hx hb dX0_settles_153 rfl ?_
      refine co_geti S hK hH 0 28 128 (by decide) ⟨by decide, rfl, rfl, rfl⟩ (Or.inl q289) hk_a0 dX0_settles_154 ?_
      refine lv_iload_n hx hb dX0_settles_157 rfl (lv_at hl 1 rfl) ?_
      refine lv_isub hx hb dX0_settles_158 ?_
      refine co_puti S hK hH hS 0 28 128 (by decide) ⟨by decide, rfl, rfl, rfl, rfl⟩ (Or.inl q289) hk_a0 ⟨rfl, rfl⟩ dX0_settles_159 (fun H locs hH hS => ?_)
      obtain ⟨M56, eM56⟩ : ∃ y : Mm, y = sI M 128 a0 0 ((mI M 128 a0 0) - x2) := ⟨_, rfl⟩
      have hw := hw M56 eM56
      rw [← eM56] at hH
      have hE57 : Ext M M56 := by rw [eM56]; exact Ext.sI
      have hk58 := hE57.k hk_a0 (by decide)
      have hE := hE.tr hE57
      exact co_vret S hr hlocks hH hE hS hw dX0_settles_162
    · have hw := hw.2 c55
      refine lv_aload_n hx hb dX0_settles_129 rfl (lv_at hl 0 rfl) ?_
      have hk59 := hw.1
      have hw := hw.2
      refine co_getr S hK hH 0 27 127 (by decide) ⟨by decide, rfl, rfl, rfl⟩ (Or.inl q288) hk_a0 (by rw [hk59]; decide) dX0_settles_130 ?_
      refine lv_iload_n hx hb dX0_settles_133 rfl (lv_at hl 2 rfl) ?_
      refine lv_iload_n hx hb dX0_settles_134 rfl (lv_at hl 1 rfl) ?_
      refine lv_isub hx hb dX0_settles_135 ?_
      have hin60 := hw.1
      have hw := hw.2
      have hk61 := hw.1
      have hw := hw.2
      refine co_aald S hK hH 8 28 ⟨by decide, rfl, rfl⟩ hk59 hin60 (by rw [hk61]; decide) dX0_settles_136 ?_
      refine lv_aload_n hx hb dX0_settles_137 rfl (lv_at hl 0 rfl) ?_
      have hk62 := hw.1
      have hw := hw.2
      refine co_getr S hK hH 0 27 127 (by decide) ⟨by decide, rfl, rfl, rfl⟩ (Or.inl q288) hk_a0 (by rw [hk62]; decide) dX0_settles_138 ?_
      refine lv_iload_n hx hb dX0_settles_141 rfl (lv_at hl 2 rfl) ?_
      have hin63 := hw.1
      have hw := hw.2
      have hk64 := hw.1
      have hw := hw.2
      refine co_aald S hK hH 8 28 ⟨by decide, rfl, rfl⟩ hk62 hin63 (by rw [hk64]; decide) dX0_settles_142 ?_
      refine co_callv (va_runV (As := [.ref (mP M 28 (mP M 127 a0 0) x3.toNatClampNeg)]) (rest := []) S (m8_copies l g AD M (mP M 28 (mP M 127 a0 0) (x3 - x2).toNatClampNeg) (mP M 28 (mP M 127 a0 0) x3.toNatClampNeg) _ hk61 hk64 hw) (cwV 1 hts (lw_V q706 q707 q708 q62 q709) rfl rfl rfl (by decide +kernel) ⟨Nat.le_of_ble_eq_true rfl, Nat.le_of_ble_eq_true rfl⟩) ⟨co_blind, co_recv hK hH (c := 8) (by decide) hk61, co_pre hK hH hA hS⟩ rfl rfl hl.1 rfl (lv_room (Nat.le_of_ble_eq_true rfl)) dX0_settles_143 ⟨Nat.le_refl _, Nat.le_refl _⟩) hS (fun M65 H locs hw hH hE67 hS => ?_)
      have hk69 := hE67.k hk_a0 (by decide)
      have hE := hE.tr hE67
      refine lv_iinc (v := x3 + 1) (lv' := [(3, .int (x3 + 1)), (0, .ref a0), (2, .int x2)]) hx hb dX0_settles_146 hl (k := 2) rfl rfl (by decide) rfl (fun ls hl => ?_)
      refine lv_goto (tgt := 121) hx hb dX0_settles_149 (by decide) ?_
      exact hkb _ _ _ _ hw hE hk69 _ _ hH hS _ (lv_sub hl [1, 2, 0] rfl)
def w0_settles_119 (post : Mm → Prop)  (M : Mm) (a0 : Nat) (x2 : Int32) : Prop :=
  ∃ n, w0_settles_121 post  n M a0 x2 x2
set_option maxHeartbeats 4000000 in
set_option maxRecDepth 100000 in
theorem r0_settles_119 {p : Program} {l : Launch} {e : Env} {s : State} {m : MethodId} {args : Array Value} {below : List Frame} {meth : Method} {c : Code} {g : CG} {AD : Nat → Prop} {M0 : Mm} (S : CallFix p m c cX0_settles 4 s args lw_all RX0) (hr : meth.sig.returnType = none) (hlocks : meth.locks = false) (hK : KC g s) (hA : ∀ q, s.heap.size ≤ q → AD q) {post : Mm → Prop}  : ∀ (M : Mm) (a0 : Nat) (x2 : Int32), w0_settles_119 post  M a0 x2 → Ext M0 M → mK M a0 = 1 → ∀ (H : Heap) (locs : List Loc), HC g AD M H → va_S AD s.heap H locs → ∀ (ls : Array Slot), lv_has ls 4 [(0, .ref a0), (2, .int x2)] → W p l e rm0_settles s m args below meth c H locs 0 0 (MQ below (CQv g AD M0 post) args s 0 0 AD) (F0 m 119 ls []) := by
  have hx := S.1
  have hb := S.2.1
  have hown := S.2.2.2.1
  have hts := S.2.2.2.2
  intro M a0 x2 hw hE hk_a0 H locs hH hS ls hl
  unfold w0_settles_119 at hw
  refine lv_iload_n hx hb dX0_settles_119 rfl (lv_at hl 1 rfl) ?_
  refine lv_istore_n (lv' := [(3, .int x2), (0, .ref a0), (2, .int x2)]) hx hb dX0_settles_120 rfl hl (by decide) rfl (fun ls hl => ?_)
  obtain ⟨n, hw⟩ := hw
  refine r0_settles_121 S hr hlocks hK hA  n _ _ _ _ hw hE hk_a0 _ _ hH hS _ (lv_sub hl [1, 2, 0] rfl)
def w0_settles (post : Mm → Prop) (M : Mm) (a0 : Nat) (a1 : Nat) : Prop :=
  ∃ n, w0_settles_2 post (fun (M54 : Mm) (a0_52 : Nat) (x2_53 : Int32) => w0_settles_119 post M54 a0_52 x2_53) n M a0 a1 0
set_option maxHeartbeats 4000000 in
set_option maxRecDepth 100000 in
theorem m0_settles (l : Launch) (g : CG) (AD : Nat → Prop) (M : Mm) (a0 : Nat) (a1 : Nat) (post : Mm → Prop) (hk_a0 : mK M a0 = 1) (hk_a1 : mK M a1 = 5) (hw : w0_settles post M a0 a1) : Met l yX0_settles (ws_ yX0_settles cX0_settles 4 none) rm0_settles (CPc g AD M [.ref a0, .ref a1]) (CQv g AD M post) 0 0 AD := by
  refine Met.ofW (cc := cX0_settles) (maxL := 4) (ret := none) (by decide) rfl ?_
  intro p e s m args below meth c s₁ B hml hv
  obtain ⟨rfl, hK, hH, hA⟩ := hv
  have hx := B.exec
  have hb := B.bytes
  have hr : meth.sig.returnType = none := B.returns
  have hts := atoms_spec (ws := ws_ yX0_settles cX0_settles 4 none) B.pre
  have hts : ∀ w ∈ lw_all, w.before _ s = true := fun w h => hts w (List.mem_cons_of_mem _ h)
  have hown : s.vm.findClass RX0 = some m.cls := findClass_of_methodNamed B.named
  have hlocks : meth.locks = false := B.notSynchronized
  have S : CallFix p m c cX0_settles 4 s _ lw_all RX0 := ⟨hx, hb, hml, hown, hts⟩
  have hS : va_S AD s.heap s.heap [] := va_S.rf
  have hE : Ext M M := Ext.rf
  have hl := lv_entry ([.ref a0, .ref a1]) (n := 4) (Nat.le_of_ble_eq_true rfl)
  rw [lg_entry_eq]
  generalize (lg_sl ([.ref a0, .ref a1]) ++ List.replicate (4 - (lg_sl ([.ref a0, .ref a1])).length) Slot.unset).toArray = ls at hl ⊢
  have hl : lv_has ls 4 [(0, .ref a0), (1, .ref a1)] := hl
  unfold w0_settles at hw
  refine lv_iconst (v := 0) hx hb dX0_settles_0 (by decide) ?_
  refine lv_istore_n (lv' := [(2, .int 0), (0, .ref a0), (1, .ref a1)]) hx hb dX0_settles_1 rfl hl (by decide) rfl (fun ls hl => ?_)
  obtain ⟨n, hw⟩ := hw
  refine r0_settles_2 S hr hlocks hK hA (fun M54 a0_52 x2_53 hw hE hk_a0_52 H locs hH hS ls hl => ?_) n _ _ _ _ hw hE hk_a0 hk_a1 _ _ hH hS _ (lv_sub hl [1, 2, 0] rfl)
  exact r0_settles_119 S hr hlocks hK hA  _ _ _ hw hE hk_a0_52 _ _ hH hS _ (lv_sub hl [0, 1] rfl)
/-! FarTypewriter.takesNear()Z -/
abbrev rm0_takesNear : Room := { frames := 4, cells := 0, slots := 0, locals := 252 }
def w0_takesNear_282 (post : Int32 → Mm → Prop)  (M : Mm) (t0 : Int32) (b1 : Nat) : Prop :=
  (t0 = 0 ∨ t0 = 1) ∧ (∀ M62 : Mm, M62 = sI M 113 b1 0 t0 → (post 1 M62))
set_option maxHeartbeats 4000000 in
set_option maxRecDepth 100000 in
theorem r0_takesNear_282 {p : Program} {l : Launch} {e : Env} {s : State} {m : MethodId} {args : Array Value} {below : List Frame} {meth : Method} {c : Code} {g : CG} {AD : Nat → Prop} {M0 : Mm} (S : CallFix p m c cX0_takesNear 5 s args lw_all RX0) (hr : meth.sig.returnType = (some .boolean)) (hlocks : meth.locks = false) (hK : KC g s) (hA : ∀ q, s.heap.size ≤ q → AD q) {post : Int32 → Mm → Prop}  : ∀ (M : Mm) (t0 : Int32) (b1 : Nat), w0_takesNear_282 post  M t0 b1 → Ext M0 M → mK M b1 = 1 → ∀ (H : Heap) (locs : List Loc), HC g AD M H → va_S AD s.heap H locs → ∀ (ls : Array Slot), lv_has ls 5 [] → W p l e rm0_takesNear s m args below meth c H locs 0 0 (MQ below (CQi g AD M0 post) args s 0 0 AD) (F0 m 282 ls [.int t0, .ref b1]) := by
  have hx := S.1
  have hb := S.2.1
  have hown := S.2.2.2.1
  have hts := S.2.2.2.2
  intro M t0 b1 hw hE hk_b1 H locs hH hS ls hl
  unfold w0_takesNear_282 at hw
  have hz61 := hw.1
  have hw := hw.2
  refine co_puti S hK hH hS 0 13 113 (by decide) ⟨by decide, rfl, rfl, rfl, rfl⟩ (Or.inl q274) hk_b1 (mo_bool hz61) dX0_takesNear_282 (fun H locs hH hS => ?_)
  obtain ⟨M62, eM62⟩ : ∃ y : Mm, y = sI M 113 b1 0 t0 := ⟨_, rfl⟩
  have hw := hw M62 eM62
  rw [← eM62] at hH
  have hE63 : Ext M M62 := by rw [eM62]; exact Ext.sI
  have hE := hE.tr hE63
  refine lv_iconst (v := 1) hx hb dX0_takesNear_285 (by decide) ?_
  exact co_zret S hr hlocks hH hE hS rfl hw dX0_takesNear_286
def w0_takesNear_277 (post : Int32 → Mm → Prop)  (M : Mm) (b0 : Nat) : Prop :=
  w0_takesNear_282 post M 1 b0
set_option maxHeartbeats 4000000 in
set_option maxRecDepth 100000 in
theorem r0_takesNear_277 {p : Program} {l : Launch} {e : Env} {s : State} {m : MethodId} {args : Array Value} {below : List Frame} {meth : Method} {c : Code} {g : CG} {AD : Nat → Prop} {M0 : Mm} (S : CallFix p m c cX0_takesNear 5 s args lw_all RX0) (hr : meth.sig.returnType = (some .boolean)) (hlocks : meth.locks = false) (hK : KC g s) (hA : ∀ q, s.heap.size ≤ q → AD q) {post : Int32 → Mm → Prop}  : ∀ (M : Mm) (b0 : Nat), w0_takesNear_277 post  M b0 → Ext M0 M → mK M b0 = 1 → ∀ (H : Heap) (locs : List Loc), HC g AD M H → va_S AD s.heap H locs → ∀ (ls : Array Slot), lv_has ls 5 [] → W p l e rm0_takesNear s m args below meth c H locs 0 0 (MQ below (CQi g AD M0 post) args s 0 0 AD) (F0 m 277 ls [.ref b0]) := by
  have hx := S.1
  have hb := S.2.1
  have hown := S.2.2.2.1
  have hts := S.2.2.2.2
  intro M b0 hw hE hk_b0 H locs hH hS ls hl
  unfold w0_takesNear_277 at hw
  refine lv_iconst (v := 1) hx hb dX0_takesNear_277 (by decide) ?_
  refine lv_goto (tgt := 282) hx hb dX0_takesNear_278 (by decide) ?_
  exact r0_takesNear_282 S hr hlocks hK hA  _ _ _ hw hE hk_b0 _ _ hH hS _ (lv_sub hl [] rfl)
def w0_takesNear_255 (post : Int32 → Mm → Prop)  (M : Mm) (a0 : Nat) (x1 : Int32) : Prop :=
  ((mI M 113 a0 0) = 0 → mK M (mP M 114 a0 0) = 4 ∧ (w3_newest (fun (r66 : Nat) (M65 : Mm) => ((mI M65 501 r66 0) ≤ x1 → w0_takesNear_282 post M65 0 a0) ∧ (¬ (mI M65 501 r66 0) ≤ x1 → w0_takesNear_277 post M65 a0)) M (mP M 114 a0 0))) ∧ (¬ (mI M 113 a0 0) = 0 → w0_takesNear_277 post M a0)
set_option maxHeartbeats 4000000 in
set_option maxRecDepth 100000 in
theorem r0_takesNear_255 {p : Program} {l : Launch} {e : Env} {s : State} {m : MethodId} {args : Array Value} {below : List Frame} {meth : Method} {c : Code} {g : CG} {AD : Nat → Prop} {M0 : Mm} (S : CallFix p m c cX0_takesNear 5 s args lw_all RX0) (hr : meth.sig.returnType = (some .boolean)) (hlocks : meth.locks = false) (hK : KC g s) (hA : ∀ q, s.heap.size ≤ q → AD q) {post : Int32 → Mm → Prop}  : ∀ (M : Mm) (a0 : Nat) (x1 : Int32), w0_takesNear_255 post  M a0 x1 → Ext M0 M → mK M a0 = 1 → ∀ (H : Heap) (locs : List Loc), HC g AD M H → va_S AD s.heap H locs → ∀ (ls : Array Slot), lv_has ls 5 [(0, .ref a0), (1, .int x1)] → W p l e rm0_takesNear s m args below meth c H locs 0 0 (MQ below (CQi g AD M0 post) args s 0 0 AD) (F0 m 255 ls []) := by
  have hx := S.1
  have hb := S.2.1
  have hown := S.2.2.2.1
  have hts := S.2.2.2.2
  intro M a0 x1 hw hE hk_a0 H locs hH hS ls hl
  unfold w0_takesNear_255 at hw
  refine lv_aload_n hx hb dX0_takesNear_255 rfl (lv_at hl 0 rfl) ?_
  refine lv_aload_n hx hb dX0_takesNear_256 rfl (lv_at hl 0 rfl) ?_
  refine co_geti S hK hH 0 13 113 (by decide) ⟨by decide, rfl, rfl, rfl⟩ (Or.inl q274) hk_a0 dX0_takesNear_257 ?_
  refine lv_if_ne (tgt := 277) hx hb dX0_takesNear_260 (by decide) (fun c60 => ?_) (fun c60 => ?_)
  · have hw := hw.2 c60
    exact r0_takesNear_277 S hr hlocks hK hA  _ _ hw hE hk_a0 _ _ hH hS _ (lv_sub hl [] rfl)
  · have hw := hw.1 c60
    refine lv_iload_n hx hb dX0_takesNear_263 rfl (lv_at hl 1 rfl) ?_
    refine lv_aload_n hx hb dX0_takesNear_264 rfl (lv_at hl 0 rfl) ?_
    have hk64 := hw.1
    have hw := hw.2
    refine co_getr S hK hH 0 14 114 (by decide) ⟨by decide, rfl, rfl, rfl⟩ (Or.inl q275) hk_a0 (by rw [hk64]; decide) dX0_takesNear_265 ?_
    refine co_callr (va_runV (As := []) (rest := [.int x1, .ref a0]) S (m3_newest l g AD M (mP M 114 a0 0) _ hk64 hw) (cwV 0 hts (lw_V q536 q258 q259 q57 q260) rfl rfl rfl (by decide +kernel) ⟨Nat.le_of_ble_eq_true rfl, Nat.le_of_ble_eq_true rfl⟩) ⟨co_blind, co_recv hK hH (c := 3) (by decide) hk64, co_pre hK hH hA hS⟩ rfl rfl hl.1 rfl (lv_room (Nat.le_of_ble_eq_true rfl)) dX0_takesNear_268 ⟨Nat.le_refl _, Nat.le_refl _⟩) hS (fun r66 M65 H locs hw hH hE67 hk68 hS => ?_)
    have hk69 := hE67.k hk_a0 (by decide)
    have hE := hE.tr hE67
    have hk68 : mK M65 r66 = 5 := hk68
    refine co_geti S hK hH 4 1 501 (by decide) ⟨by decide, rfl, rfl, rfl⟩ (Or.inr ⟨_, q175⟩) hk68 dX0_takesNear_271 ?_
    refine lv_icmp_ge (tgt := 281) hx hb dX0_takesNear_274 (by decide) (fun c70 => ?_) (fun c70 => ?_)
    · have hw := hw.1 c70
      refine lv_iconst (v := 0) hx hb dX0_takesNear_281 (by decide) ?_
      exact r0_takesNear_282 S hr hlocks hK hA  _ _ _ hw hE hk69 _ _ hH hS _ (lv_sub hl [] rfl)
    · have hw := hw.2 c70
      exact r0_takesNear_277 S hr hlocks hK hA  _ _ hw hE hk69 _ _ hH hS _ (lv_sub hl [] rfl)
def w0_takesNear_94 (post : Int32 → Mm → Prop)  (M : Mm) (t0 : Int32) (b1 : Nat) : Prop :=
  (t0 = 0 ∨ t0 = 1) ∧ (∀ M167 : Mm, M167 = sI M 113 b1 0 t0 → (post 0 M167))
set_option maxHeartbeats 4000000 in
set_option maxRecDepth 100000 in
theorem r0_takesNear_94 {p : Program} {l : Launch} {e : Env} {s : State} {m : MethodId} {args : Array Value} {below : List Frame} {meth : Method} {c : Code} {g : CG} {AD : Nat → Prop} {M0 : Mm} (S : CallFix p m c cX0_takesNear 5 s args lw_all RX0) (hr : meth.sig.returnType = (some .boolean)) (hlocks : meth.locks = false) (hK : KC g s) (hA : ∀ q, s.heap.size ≤ q → AD q) {post : Int32 → Mm → Prop}  : ∀ (M : Mm) (t0 : Int32) (b1 : Nat), w0_takesNear_94 post  M t0 b1 → Ext M0 M → mK M b1 = 1 → ∀ (H : Heap) (locs : List Loc), HC g AD M H → va_S AD s.heap H locs → ∀ (ls : Array Slot), lv_has ls 5 [] → W p l e rm0_takesNear s m args below meth c H locs 0 0 (MQ below (CQi g AD M0 post) args s 0 0 AD) (F0 m 94 ls [.int t0, .ref b1]) := by
  have hx := S.1
  have hb := S.2.1
  have hown := S.2.2.2.1
  have hts := S.2.2.2.2
  intro M t0 b1 hw hE hk_b1 H locs hH hS ls hl
  unfold w0_takesNear_94 at hw
  have hz166 := hw.1
  have hw := hw.2
  refine co_puti S hK hH hS 0 13 113 (by decide) ⟨by decide, rfl, rfl, rfl, rfl⟩ (Or.inl q274) hk_b1 (mo_bool hz166) dX0_takesNear_94 (fun H locs hH hS => ?_)
  obtain ⟨M167, eM167⟩ : ∃ y : Mm, y = sI M 113 b1 0 t0 := ⟨_, rfl⟩
  have hw := hw M167 eM167
  rw [← eM167] at hH
  have hE168 : Ext M M167 := by rw [eM167]; exact Ext.sI
  have hE := hE.tr hE168
  refine lv_iconst (v := 0) hx hb dX0_takesNear_97 (by decide) ?_
  exact co_zret S hr hlocks hH hE hS rfl hw dX0_takesNear_98
def w0_takesNear_89 (post : Int32 → Mm → Prop)  (M : Mm) (b0 : Nat) : Prop :=
  w0_takesNear_94 post M 1 b0
set_option maxHeartbeats 4000000 in
set_option maxRecDepth 100000 in
theorem r0_takesNear_89 {p : Program} {l : Launch} {e : Env} {s : State} {m : MethodId} {args : Array Value} {below : List Frame} {meth : Method} {c : Code} {g : CG} {AD : Nat → Prop} {M0 : Mm} (S : CallFix p m c cX0_takesNear 5 s args lw_all RX0) (hr : meth.sig.returnType = (some .boolean)) (hlocks : meth.locks = false) (hK : KC g s) (hA : ∀ q, s.heap.size ≤ q → AD q) {post : Int32 → Mm → Prop}  : ∀ (M : Mm) (b0 : Nat), w0_takesNear_89 post  M b0 → Ext M0 M → mK M b0 = 1 → ∀ (H : Heap) (locs : List Loc), HC g AD M H → va_S AD s.heap H locs → ∀ (ls : Array Slot), lv_has ls 5 [] → W p l e rm0_takesNear s m args below meth c H locs 0 0 (MQ below (CQi g AD M0 post) args s 0 0 AD) (F0 m 89 ls [.ref b0]) := by
  have hx := S.1
  have hb := S.2.1
  have hown := S.2.2.2.1
  have hts := S.2.2.2.2
  intro M b0 hw hE hk_b0 H locs hH hS ls hl
  unfold w0_takesNear_89 at hw
  refine lv_iconst (v := 1) hx hb dX0_takesNear_89 (by decide) ?_
  refine lv_goto (tgt := 94) hx hb dX0_takesNear_90 (by decide) ?_
  exact r0_takesNear_94 S hr hlocks hK hA  _ _ _ hw hE hk_b0 _ _ hH hS _ (lv_sub hl [] rfl)
def w0_takesNear (post : Int32 → Mm → Prop) (M : Mm) (a0 : Nat) : Prop :=
  mK M (mP M 105 a0 0) = 3 ∧ (w2_at (fun (r3 : Int32) (M2 : Mm) => (r3 = (mI M2 111 a0 0) → mK M2 (mP M2 105 a0 0) = 3 ∧ (w2_twoAt (fun (r10 : Int32) (M9 : Mm) => mK M9 (mP M9 105 a0 0) = 3 ∧ (w2_twoAt (fun (r16 : Int32) (M15 : Mm) => mK M15 (mP M15 114 a0 0) = 4 ∧ (w3_find (fun (r22 : Int32) (M21 : Mm) => (r22 = (-1) → mK M21 (mP M21 103 a0 0) = 24 ∧ (vp_in 4 10 ∧ (vp_in 4 10 ∧ (∀ M162 : Mm, M162 = sI M21 24 (mP M21 103 a0 0) (4 : Int32).toNatClampNeg ((mI M21 24 (mP M21 103 a0 0) (4 : Int32).toNatClampNeg) + 1) → (((mI M162 113 a0 0) = 0 → mK M162 (mP M162 114 a0 0) = 4 ∧ (w3_newest (fun (r171 : Nat) (M170 : Mm) => ((mI M170 501 r171 0) ≤ r10 → w0_takesNear_94 post M170 0 a0) ∧ (¬ (mI M170 501 r171 0) ≤ r10 → w0_takesNear_89 post M170 a0)) M162 (mP M162 114 a0 0))) ∧ (¬ (mI M162 113 a0 0) = 0 → w0_takesNear_89 post M162 a0)))))) ∧ (¬ r22 = (-1) → mK M21 (mP M21 114 a0 0) = 4 ∧ (w3_givesUp (fun (M28 : Mm) => mK M28 (mP M28 114 a0 0) = 4 ∧ (mK M28 (mP M28 400 (mP M28 114 a0 0) 0) = 25 ∧ (vp_in 0 32 ∧ (mK M28 (mP M28 25 (mP M28 400 (mP M28 114 a0 0) 0) (0 : Int32).toNatClampNeg) = 5 ∧ (mK M28 (mP M28 105 a0 0) = 3 ∧ (w2_twoAt (fun (r39 : Int32) (M38 : Mm) => ∀ M44 : Mm, M44 = sI M38 108 a0 0 (if (mI M28 108 a0 0) < r39 then r39 else (mI M28 108 a0 0)) → (∀ M48 : Mm, M48 = sI M44 112 a0 0 r10 → (mK M48 (mP M48 114 a0 0) = 4 ∧ (w3_newest (fun (r54 : Nat) (M53 : Mm) => (r16 ≤ (mI M53 501 r54 0) → w0_takesNear_255 post M53 a0 r10) ∧ (¬ r16 ≤ (mI M53 501 r54 0) → mK M53 (mP M53 114 a0 0) = 4 ∧ (w3_next (fun (r73 : Nat) (M72 : Mm) => mK M72 (mP M72 500 r73 0) = 6 ∧ (mK M72 (mP M72 500 (mP M28 25 (mP M28 400 (mP M28 114 a0 0) 0) (0 : Int32).toNatClampNeg) 0) = 6 ∧ (w5_copies (fun (M80 : Mm) => ∀ M87 : Mm, M87 = sI M80 501 r73 0 r16 → (mK M87 (mP M87 105 a0 0) = 3 ∧ (w2_twoAt (fun (r94 : Int32) (M93 : Mm) => ∀ M100 : Mm, M100 = sI M93 502 r73 0 r94 → (mK M100 (mP M100 105 a0 0) = 3 ∧ (mK M100 (mP M100 500 r73 0) = 6 ∧ (w0_lays (fun (r108 : Int32) (M107 : Mm) => mK M107 (mP M107 500 r73 0) = 6 ∧ (mK M107 (mP M107 105 a0 0) = 3 ∧ (w2_at (fun (r117 : Int32) (M116 : Mm) => ∀ M124 : Mm, M124 = sI M116 602 (mP M107 500 r73 0) 0 r117 → (mK M124 (mP M124 500 r73 0) = 6 ∧ (mK M124 (mP M124 105 a0 0) = 3 ∧ (w2_at (fun (r132 : Int32) (M131 : Mm) => ∀ M139 : Mm, M139 = sI M131 603 (mP M124 500 r73 0) 0 r132 → (mK M139 (mP M139 114 a0 0) = 4 ∧ (w3_newest (fun (r146 : Nat) (M145 : Mm) => w0_settles (fun (M152 : Mm) => w0_takesNear_255 post M152 a0 r10) M145 a0 r146) M139 (mP M139 114 a0 0)))) M124 (mP M124 105 a0 0) 9)))) M107 (mP M107 105 a0 0) 8))) M100 (mP M100 105 a0 0) (mP M100 500 r73 0))))) M87 (mP M87 105 a0 0) 6))) M72 (mP M72 500 r73 0) (mP M72 500 (mP M28 25 (mP M28 400 (mP M28 114 a0 0) 0) (0 : Int32).toNatClampNeg) 0)))) M53 (mP M53 114 a0 0)))) M48 (mP M48 114 a0 0))))) M28 (mP M28 105 a0 0) 6)))))) M21 (mP M21 114 a0 0) r10))) M15 (mP M15 114 a0 0) r10)) M9 (mP M9 105 a0 0) 4)) M2 (mP M2 105 a0 0) 2)) ∧ (¬ r3 = (mI M2 111 a0 0) → mK M2 (mP M2 103 a0 0) = 24 ∧ (vp_in 2 10 ∧ (vp_in 2 10 ∧ (∀ M179 : Mm, M179 = sI M2 24 (mP M2 103 a0 0) (2 : Int32).toNatClampNeg ((mI M2 24 (mP M2 103 a0 0) (2 : Int32).toNatClampNeg) + 1) → (post 0 M179)))))) M (mP M 105 a0 0) 1)
set_option maxHeartbeats 4000000 in
set_option maxRecDepth 100000 in
theorem m0_takesNear (l : Launch) (g : CG) (AD : Nat → Prop) (M : Mm) (a0 : Nat) (post : Int32 → Mm → Prop) (hk_a0 : mK M a0 = 1) (hw : w0_takesNear post M a0) : Met l yX0_takesNear (ws_ yX0_takesNear cX0_takesNear 5 (some .boolean)) rm0_takesNear (CPc g AD M [.ref a0]) (CQi g AD M post) 0 0 AD := by
  refine Met.ofW (cc := cX0_takesNear) (maxL := 5) (ret := (some .boolean)) (by decide) rfl ?_
  intro p e s m args below meth c s₁ B hml hv
  obtain ⟨rfl, hK, hH, hA⟩ := hv
  have hx := B.exec
  have hb := B.bytes
  have hr : meth.sig.returnType = (some .boolean) := B.returns
  have hts := atoms_spec (ws := ws_ yX0_takesNear cX0_takesNear 5 (some .boolean)) B.pre
  have hts : ∀ w ∈ lw_all, w.before _ s = true := fun w h => hts w (List.mem_cons_of_mem _ h)
  have hown : s.vm.findClass RX0 = some m.cls := findClass_of_methodNamed B.named
  have hlocks : meth.locks = false := B.notSynchronized
  have S : CallFix p m c cX0_takesNear 5 s _ lw_all RX0 := ⟨hx, hb, hml, hown, hts⟩
  have hS : va_S AD s.heap s.heap [] := va_S.rf
  have hE : Ext M M := Ext.rf
  have hl := lv_entry ([.ref a0]) (n := 5) (Nat.le_of_ble_eq_true rfl)
  rw [lg_entry_eq]
  generalize (lg_sl ([.ref a0]) ++ List.replicate (5 - (lg_sl ([.ref a0])).length) Slot.unset).toArray = ls at hl ⊢
  have hl : lv_has ls 5 [(0, .ref a0)] := hl
  unfold w0_takesNear at hw
  refine lv_aload_n hx hb dX0_takesNear_0 rfl (lv_at hl 0 rfl) ?_
  have hk1 := hw.1
  have hw := hw.2
  refine co_getr S hK hH 0 5 105 (by decide) ⟨by decide, rfl, rfl, rfl⟩ (Or.inl q266) hk_a0 (by rw [hk1]; decide) dX0_takesNear_1 ?_
  refine lv_iconst (v := 1) hx hb dX0_takesNear_4 (by decide) ?_
  refine co_calli (va_runV (As := [.int 1]) (rest := []) S (m2_at l g AD M (mP M 105 a0 0) 1 _ hk1 hw) (cwV 1 hts (lw_V q644 q603 q604 q56 q605) rfl rfl rfl (by decide +kernel) ⟨Nat.le_of_ble_eq_true rfl, Nat.le_of_ble_eq_true rfl⟩) ⟨co_blind, co_recv hK hH (c := 2) (by decide) hk1, co_pre hK hH hA hS⟩ rfl rfl hl.1 rfl (lv_room (Nat.le_of_ble_eq_true rfl)) dX0_takesNear_5 ⟨Nat.le_refl _, Nat.le_refl _⟩) hS (fun r3 M2 H locs hw hH hE4 hS => ?_)
  have hk6 := hE4.k hk_a0 (by decide)
  have hE := hE.tr hE4
  refine lv_aload_n hx hb dX0_takesNear_8 rfl (lv_at hl 0 rfl) ?_
  refine co_geti S hK hH 0 11 111 (by decide) ⟨by decide, rfl, rfl, rfl⟩ (Or.inl q272) hk6 dX0_takesNear_9 ?_
  refine lv_icmp_eq (tgt := 27) hx hb dX0_takesNear_12 (by decide) (fun c7 => ?_) (fun c7 => ?_)
  · have hw := hw.1 c7
    refine lv_aload_n hx hb dX0_takesNear_27 rfl (lv_at hl 0 rfl) ?_
    have hk8 := hw.1
    have hw := hw.2
    refine co_getr S hK hH 0 5 105 (by decide) ⟨by decide, rfl, rfl, rfl⟩ (Or.inl q266) hk6 (by rw [hk8]; decide) dX0_takesNear_28 ?_
    refine lv_iconst (v := 2) hx hb dX0_takesNear_31 (by decide) ?_
    refine co_calli (va_runV (As := [.int 2]) (rest := []) S (m2_twoAt l g AD M2 (mP M2 105 a0 0) 2 _ hk8 hw) (cwV 1 hts (lw_V q643 q635 q636 q56 q637) rfl rfl rfl (by decide +kernel) ⟨Nat.le_of_ble_eq_true rfl, Nat.le_of_ble_eq_true rfl⟩) ⟨co_blind, co_recv hK hH (c := 2) (by decide) hk8, co_pre hK hH hA hS⟩ rfl rfl hl.1 rfl (lv_room (Nat.le_of_ble_eq_true rfl)) dX0_takesNear_32 ⟨Nat.le_refl _, Nat.le_refl _⟩) hS (fun r10 M9 H locs hw hH hE11 hS => ?_)
    have hk13 := hE11.k hk6 (by decide)
    have hE := hE.tr hE11
    refine lv_istore_n (lv' := [(1, .int r10), (0, .ref a0)]) hx hb dX0_takesNear_35 rfl hl (by decide) rfl (fun ls hl => ?_)
    refine lv_aload_n hx hb dX0_takesNear_36 rfl (lv_at hl 1 rfl) ?_
    have hk14 := hw.1
    have hw := hw.2
    refine co_getr S hK hH 0 5 105 (by decide) ⟨by decide, rfl, rfl, rfl⟩ (Or.inl q266) hk13 (by rw [hk14]; decide) dX0_takesNear_37 ?_
    refine lv_iconst (v := 4) hx hb dX0_takesNear_40 (by decide) ?_
    refine co_calli (va_runV (As := [.int 4]) (rest := []) S (m2_twoAt l g AD M9 (mP M9 105 a0 0) 4 _ hk14 hw) (cwV 1 hts (lw_V q643 q635 q636 q56 q637) rfl rfl rfl (by decide +kernel) ⟨Nat.le_of_ble_eq_true rfl, Nat.le_of_ble_eq_true rfl⟩) ⟨co_blind, co_recv hK hH (c := 2) (by decide) hk14, co_pre hK hH hA hS⟩ rfl rfl hl.1 rfl (lv_room (Nat.le_of_ble_eq_true rfl)) dX0_takesNear_41 ⟨Nat.le_refl _, Nat.le_refl _⟩) hS (fun r16 M15 H locs hw hH hE17 hS => ?_)
    have hk19 := hE17.k hk13 (by decide)
    have hE := hE.tr hE17
    refine lv_istore_n (lv' := [(2, .int r16), (1, .int r10), (0, .ref a0)]) hx hb dX0_takesNear_44 rfl hl (by decide) rfl (fun ls hl => ?_)
    refine lv_aload_n hx hb dX0_takesNear_45 rfl (lv_at hl 2 rfl) ?_
    have hk20 := hw.1
    have hw := hw.2
    refine co_getr S hK hH 0 14 114 (by decide) ⟨by decide, rfl, rfl, rfl⟩ (Or.inl q275) hk19 (by rw [hk20]; decide) dX0_takesNear_46 ?_
    refine lv_iload_n hx hb dX0_takesNear_49 rfl (lv_at hl 1 rfl) ?_
    refine co_calli (va_runV (As := [.int r10]) (rest := []) S (m3_find l g AD M15 (mP M15 114 a0 0) r10 _ hk20 hw) (cwV 1 hts (lw_V q565 q566 q567 q57 q568) rfl rfl rfl (by decide +kernel) ⟨Nat.le_of_ble_eq_true rfl, Nat.le_of_ble_eq_true rfl⟩) ⟨co_blind, co_recv hK hH (c := 3) (by decide) hk20, co_pre hK hH hA hS⟩ rfl rfl hl.1 rfl (lv_room (Nat.le_of_ble_eq_true rfl)) dX0_takesNear_50 ⟨Nat.le_refl _, Nat.le_refl _⟩) hS (fun r22 M21 H locs hw hH hE23 hS => ?_)
    have hk25 := hE23.k hk19 (by decide)
    have hE := hE.tr hE23
    refine lv_iconst (v := (-1)) hx hb dX0_takesNear_53 (by decide) ?_
    refine lv_icmp_ne (tgt := 99) hx hb dX0_takesNear_54 (by decide) (fun c26 => ?_) (fun c26 => ?_)
    · have hw := hw.2 c26
      refine lv_aload_n hx hb dX0_takesNear_99 rfl (lv_at hl 2 rfl) ?_
      have hk27 := hw.1
      have hw := hw.2
      refine co_getr S hK hH 0 14 114 (by decide) ⟨by decide, rfl, rfl, rfl⟩ (Or.inl q275) hk25 (by rw [hk27]; decide) dX0_takesNear_100 ?_
      refine lv_iload_n hx hb dX0_takesNear_103 rfl (lv_at hl 1 rfl) ?_
      refine co_callv (va_runV (As := [.int r10]) (rest := []) S (m3_givesUp l g AD M21 (mP M21 114 a0 0) r10 _ hk27 hw) (cwV 1 hts (lw_V q680 q681 q682 q57 q683) rfl rfl rfl (by decide +kernel) ⟨Nat.le_of_ble_eq_true rfl, Nat.le_of_ble_eq_true rfl⟩) ⟨co_blind, co_recv hK hH (c := 3) (by decide) hk27, co_pre hK hH hA hS⟩ rfl rfl hl.1 rfl (lv_room (Nat.le_of_ble_eq_true rfl)) dX0_takesNear_104 ⟨Nat.le_refl _, Nat.le_refl _⟩) hS (fun M28 H locs hw hH hE30 hS => ?_)
      have hk32 := hE30.k hk25 (by decide)
      have hE := hE.tr hE30
      refine lv_aload_n hx hb dX0_takesNear_107 rfl (lv_at hl 2 rfl) ?_
      have hk33 := hw.1
      have hw := hw.2
      refine co_getr S hK hH 0 14 114 (by decide) ⟨by decide, rfl, rfl, rfl⟩ (Or.inl q275) hk32 (by rw [hk33]; decide) dX0_takesNear_108 ?_
      have hk34 := hw.1
      have hw := hw.2
      refine co_getr S hK hH 3 0 400 (by decide) ⟨by decide, rfl, rfl, rfl⟩ (Or.inr ⟨_, q186⟩) hk33 (by rw [hk34]; decide) dX0_takesNear_111 ?_
      refine lv_iconst (v := 0) hx hb dX0_takesNear_114 (by decide) ?_
      have hin35 := hw.1
      have hw := hw.2
      have hk36 := hw.1
      have hw := hw.2
      refine co_aald S hK hH 5 25 ⟨by decide, rfl, rfl⟩ hk34 hin35 (by rw [hk36]; decide) dX0_takesNear_115 ?_
      refine lv_astore_n (lv' := [(3, .ref (mP M28 25 (mP M28 400 (mP M28 114 a0 0) 0) (0 : Int32).toNatClampNeg)), (2, .int r16), (1, .int r10), (0, .ref a0)]) hx hb dX0_takesNear_116 rfl hl (by decide) rfl (fun ls hl => ?_)
      refine lv_aload_n hx hb dX0_takesNear_117 rfl (lv_at hl 3 rfl) ?_
      refine lv_aload_n hx hb dX0_takesNear_118 rfl (lv_at hl 3 rfl) ?_
      refine co_geti S hK hH 0 8 108 (by decide) ⟨by decide, rfl, rfl, rfl⟩ (Or.inl q269) hk32 dX0_takesNear_119 ?_
      refine lv_aload_n hx hb dX0_takesNear_122 rfl (lv_at hl 3 rfl) ?_
      have hk37 := hw.1
      have hw := hw.2
      refine co_getr S hK hH 0 5 105 (by decide) ⟨by decide, rfl, rfl, rfl⟩ (Or.inl q266) hk32 (by rw [hk37]; decide) dX0_takesNear_123 ?_
      refine lv_bipush (v := 6) hx hb dX0_takesNear_126 (by decide) ?_
      refine co_calli (va_runV (As := [.int 6]) (rest := [.int (mI M28 108 a0 0), .ref a0]) S (m2_twoAt l g AD M28 (mP M28 105 a0 0) 6 _ hk37 hw) (cwV 1 hts (lw_V q643 q635 q636 q56 q637) rfl rfl rfl (by decide +kernel) ⟨Nat.le_of_ble_eq_true rfl, Nat.le_of_ble_eq_true rfl⟩) ⟨co_blind, co_recv hK hH (c := 2) (by decide) hk37, co_pre hK hH hA hS⟩ rfl rfl hl.1 rfl (lv_room (Nat.le_of_ble_eq_true rfl)) dX0_takesNear_128 ⟨Nat.le_refl _, Nat.le_refl _⟩) hS (fun r39 M38 H locs hw hH hE40 hS => ?_)
      have hk42 := hE40.k hk32 (by decide)
      have hk43 := hE40.k hk36 (by decide)
      have hE := hE.tr hE40
      refine va_mmax hx hb (S.2.2.1.trans hl.1.symm) hown (hts _ q693) (hts _ q676) (hts _ q68) (hts _ q677) (Nat.le_of_ble_eq_true rfl) (Nat.le_of_ble_eq_true rfl) (Nat.le_of_ble_eq_true rfl) (Nat.le_of_ble_eq_true rfl) dX0_takesNear_131 ?_
      refine co_puti S hK hH hS 0 8 108 (by decide) ⟨by decide, rfl, rfl, rfl, rfl⟩ (Or.inl q269) hk42 ⟨rfl, rfl⟩ dX0_takesNear_134 (fun H locs hH hS => ?_)
      obtain ⟨M44, eM44⟩ : ∃ y : Mm, y = sI M38 108 a0 0 (if (mI M28 108 a0 0) < r39 then r39 else (mI M28 108 a0 0)) := ⟨_, rfl⟩
      have hw := hw M44 eM44
      rw [← eM44] at hH
      have hE45 : Ext M38 M44 := by rw [eM44]; exact Ext.sI
      have hk46 := hE45.k hk42 (by decide)
      have hk47 := hE45.k hk43 (by decide)
      have hE := hE.tr hE45
      refine lv_aload_n hx hb dX0_takesNear_137 rfl (lv_at hl 3 rfl) ?_
      refine lv_iload_n hx hb dX0_takesNear_138 rfl (lv_at hl 2 rfl) ?_
      refine co_puti S hK hH hS 0 12 112 (by decide) ⟨by decide, rfl, rfl, rfl, rfl⟩ (Or.inl q273) hk46 ⟨rfl, rfl⟩ dX0_takesNear_139 (fun H locs hH hS => ?_)
      obtain ⟨M48, eM48⟩ : ∃ y : Mm, y = sI M44 112 a0 0 r10 := ⟨_, rfl⟩
      have hw := hw M48 eM48
      rw [← eM48] at hH
      have hE49 : Ext M44 M48 := by rw [eM48]; exact Ext.sI
      have hk50 := hE49.k hk46 (by decide)
      have hk51 := hE49.k hk47 (by decide)
      have hE := hE.tr hE49
      refine lv_iload_n hx hb dX0_takesNear_142 rfl (lv_at hl 1 rfl) ?_
      refine lv_aload_n hx hb dX0_takesNear_143 rfl (lv_at hl 3 rfl) ?_
      have hk52 := hw.1
      have hw := hw.2
      refine co_getr S hK hH 0 14 114 (by decide) ⟨by decide, rfl, rfl, rfl⟩ (Or.inl q275) hk50 (by rw [hk52]; decide) dX0_takesNear_144 ?_
      refine co_callr (va_runV (As := []) (rest := [.int r16]) S (m3_newest l g AD M48 (mP M48 114 a0 0) _ hk52 hw) (cwV 0 hts (lw_V q536 q258 q259 q57 q260) rfl rfl rfl (by decide +kernel) ⟨Nat.le_of_ble_eq_true rfl, Nat.le_of_ble_eq_true rfl⟩) ⟨co_blind, co_recv hK hH (c := 3) (by decide) hk52, co_pre hK hH hA hS⟩ rfl rfl hl.1 rfl (lv_room (Nat.le_of_ble_eq_true rfl)) dX0_takesNear_147 ⟨Nat.le_refl _, Nat.le_refl _⟩) hS (fun r54 M53 H locs hw hH hE55 hk56 hS => ?_)
      have hk57 := hE55.k hk50 (by decide)
      have hk58 := hE55.k hk51 (by decide)
      have hE := hE.tr hE55
      have hk56 : mK M53 r54 = 5 := hk56
      refine co_geti S hK hH 4 1 501 (by decide) ⟨by decide, rfl, rfl, rfl⟩ (Or.inr ⟨_, q175⟩) hk56 dX0_takesNear_150 ?_
      refine lv_icmp_le (tgt := 255) hx hb dX0_takesNear_153 (by decide) (fun c59 => ?_) (fun c59 => ?_)
      · have hw := hw.1 c59
        exact r0_takesNear_255 S hr hlocks hK hA  _ _ _ hw hE hk57 _ _ hH hS _ (lv_sub hl [3, 2] rfl)
      · have hw := hw.2 c59
        refine lv_aload_n hx hb dX0_takesNear_156 rfl (lv_at hl 3 rfl) ?_
        have hk71 := hw.1
        have hw := hw.2
        refine co_getr S hK hH 0 14 114 (by decide) ⟨by decide, rfl, rfl, rfl⟩ (Or.inl q275) hk57 (by rw [hk71]; decide) dX0_takesNear_157 ?_
        refine co_callr (va_runV (As := []) (rest := []) S (m3_next l g AD M53 (mP M53 114 a0 0) _ hk71 hw) (cwV 0 hts (lw_V q253 q254 q255 q57 q256) rfl rfl rfl (by decide +kernel) ⟨Nat.le_of_ble_eq_true rfl, Nat.le_of_ble_eq_true rfl⟩) ⟨co_blind, co_recv hK hH (c := 3) (by decide) hk71, co_pre hK hH hA hS⟩ rfl rfl hl.1 rfl (lv_room (Nat.le_of_ble_eq_true rfl)) dX0_takesNear_160 ⟨Nat.le_refl _, Nat.le_refl _⟩) hS (fun r73 M72 H locs hw hH hE74 hk75 hS => ?_)
        have hk76 := hE74.k hk57 (by decide)
        have hk77 := hE74.k hk58 (by decide)
        have hE := hE.tr hE74
        have hk75 : mK M72 r73 = 5 := hk75
        refine lv_astore (lv' := [(4, .ref r73), (3, .ref (mP M28 25 (mP M28 400 (mP M28 114 a0 0) 0) (0 : Int32).toNatClampNeg)), (2, .int r16), (1, .int r10), (0, .ref a0)]) hx hb dX0_takesNear_163 hl (by decide) rfl (fun ls hl => ?_)
        refine lv_aload hx hb dX0_takesNear_165 (lv_at hl 0 rfl) ?_
        have hk78 := hw.1
        have hw := hw.2
        refine co_getr S hK hH 4 0 500 (by decide) ⟨by decide, rfl, rfl, rfl⟩ (Or.inr ⟨_, q172⟩) hk75 (by rw [hk78]; decide) dX0_takesNear_167 ?_
        refine lv_aload_n hx hb dX0_takesNear_170 rfl (lv_at hl 1 rfl) ?_
        have hk79 := hw.1
        have hw := hw.2
        refine co_getr S hK hH 4 0 500 (by decide) ⟨by decide, rfl, rfl, rfl⟩ (Or.inr ⟨_, q172⟩) hk77 (by rw [hk79]; decide) dX0_takesNear_171 ?_
        refine co_callv (va_runV (As := [.ref (mP M72 500 (mP M28 25 (mP M28 400 (mP M28 114 a0 0) 0) (0 : Int32).toNatClampNeg) 0)]) (rest := []) S (m5_copies l g AD M72 (mP M72 500 r73 0) (mP M72 500 (mP M28 25 (mP M28 400 (mP M28 114 a0 0) 0) (0 : Int32).toNatClampNeg) 0) _ hk78 hk79 hw) (cwV 1 hts (lw_V q246 q247 q248 q59 q249) rfl rfl rfl (by decide +kernel) ⟨Nat.le_of_ble_eq_true rfl, Nat.le_of_ble_eq_true rfl⟩) ⟨co_blind, co_recv hK hH (c := 5) (by decide) hk78, co_pre hK hH hA hS⟩ rfl rfl hl.1 rfl (lv_room (Nat.le_of_ble_eq_true rfl)) dX0_takesNear_174 ⟨Nat.le_refl _, Nat.le_refl _⟩) hS (fun M80 H locs hw hH hE82 hS => ?_)
        have hk84 := hE82.k hk76 (by decide)
        have hk85 := hE82.k hk77 (by decide)
        have hk86 := hE82.k hk75 (by decide)
        have hE := hE.tr hE82
        refine lv_aload hx hb dX0_takesNear_177 (lv_at hl 0 rfl) ?_
        refine lv_iload_n hx hb dX0_takesNear_179 rfl (lv_at hl 2 rfl) ?_
        refine co_puti S hK hH hS 4 1 501 (by decide) ⟨by decide, rfl, rfl, rfl, rfl⟩ (Or.inr ⟨_, q175⟩) hk86 ⟨rfl, rfl⟩ dX0_takesNear_180 (fun H locs hH hS => ?_)
        obtain ⟨M87, eM87⟩ : ∃ y : Mm, y = sI M80 501 r73 0 r16 := ⟨_, rfl⟩
        have hw := hw M87 eM87
        rw [← eM87] at hH
        have hE88 : Ext M80 M87 := by rw [eM87]; exact Ext.sI
        have hk89 := hE88.k hk84 (by decide)
        have hk90 := hE88.k hk85 (by decide)
        have hk91 := hE88.k hk86 (by decide)
        have hE := hE.tr hE88
        refine lv_aload hx hb dX0_takesNear_183 (lv_at hl 0 rfl) ?_
        refine lv_aload_n hx hb dX0_takesNear_185 rfl (lv_at hl 4 rfl) ?_
        have hk92 := hw.1
        have hw := hw.2
        refine co_getr S hK hH 0 5 105 (by decide) ⟨by decide, rfl, rfl, rfl⟩ (Or.inl q266) hk89 (by rw [hk92]; decide) dX0_takesNear_186 ?_
        refine lv_bipush (v := 6) hx hb dX0_takesNear_189 (by decide) ?_
        refine co_calli (va_runV (As := [.int 6]) (rest := [.ref r73]) S (m2_twoAt l g AD M87 (mP M87 105 a0 0) 6 _ hk92 hw) (cwV 1 hts (lw_V q643 q635 q636 q56 q637) rfl rfl rfl (by decide +kernel) ⟨Nat.le_of_ble_eq_true rfl, Nat.le_of_ble_eq_true rfl⟩) ⟨co_blind, co_recv hK hH (c := 2) (by decide) hk92, co_pre hK hH hA hS⟩ rfl rfl hl.1 rfl (lv_room (Nat.le_of_ble_eq_true rfl)) dX0_takesNear_191 ⟨Nat.le_refl _, Nat.le_refl _⟩) hS (fun r94 M93 H locs hw hH hE95 hS => ?_)
        have hk97 := hE95.k hk89 (by decide)
        have hk98 := hE95.k hk90 (by decide)
        have hk99 := hE95.k hk91 (by decide)
        have hE := hE.tr hE95
        refine co_puti S hK hH hS 4 2 502 (by decide) ⟨by decide, rfl, rfl, rfl, rfl⟩ (Or.inr ⟨_, q176⟩) hk99 ⟨rfl, rfl⟩ dX0_takesNear_194 (fun H locs hH hS => ?_)
        obtain ⟨M100, eM100⟩ : ∃ y : Mm, y = sI M93 502 r73 0 r94 := ⟨_, rfl⟩
        have hw := hw M100 eM100
        rw [← eM100] at hH
        have hE101 : Ext M93 M100 := by rw [eM100]; exact Ext.sI
        have hk102 := hE101.k hk97 (by decide)
        have hk103 := hE101.k hk98 (by decide)
        have hk104 := hE101.k hk99 (by decide)
        have hE := hE.tr hE101
        refine lv_aload_n hx hb dX0_takesNear_197 rfl (lv_at hl 4 rfl) ?_
        have hk105 := hw.1
        have hw := hw.2
        refine co_getr S hK hH 0 5 105 (by decide) ⟨by decide, rfl, rfl, rfl⟩ (Or.inl q266) hk102 (by rw [hk105]; decide) dX0_takesNear_198 ?_
        refine lv_aload hx hb dX0_takesNear_201 (lv_at hl 0 rfl) ?_
        have hk106 := hw.1
        have hw := hw.2
        refine co_getr S hK hH 4 0 500 (by decide) ⟨by decide, rfl, rfl, rfl⟩ (Or.inr ⟨_, q172⟩) hk104 (by rw [hk106]; decide) dX0_takesNear_203 ?_
        refine co_calli (va_runS (As := [.ref (mP M100 105 a0 0), .ref (mP M100 500 r73 0)]) (rest := []) S (m0_lays l g AD M100 (mP M100 105 a0 0) (mP M100 500 r73 0) _ hk105 hk106 hw) (va_cwS 2 hts (lw_S q694 q695 q54 q696) rfl rfl rfl (by decide +kernel) ⟨Nat.le_of_ble_eq_true rfl, Nat.le_of_ble_eq_true rfl⟩) ⟨co_blind, co_pre hK hH hA hS⟩ rfl rfl hl.1 rfl (lv_room (Nat.le_of_ble_eq_true rfl)) dX0_takesNear_206 ⟨Nat.le_refl _, Nat.le_refl _⟩) hS (fun r108 M107 H locs hw hH hE109 hS => ?_)
        have hk111 := hE109.k hk102 (by decide)
        have hk112 := hE109.k hk103 (by decide)
        have hk113 := hE109.k hk104 (by decide)
        have hE := hE.tr hE109
        refine lv_pop hx hb dX0_takesNear_209 rfl ?_
        refine lv_aload hx hb dX0_takesNear_210 (lv_at hl 0 rfl) ?_
        have hk114 := hw.1
        have hw := hw.2
        refine co_getr S hK hH 4 0 500 (by decide) ⟨by decide, rfl, rfl, rfl⟩ (Or.inr ⟨_, q172⟩) hk113 (by rw [hk114]; decide) dX0_takesNear_212 ?_
        refine lv_aload_n hx hb dX0_takesNear_215 rfl (lv_at hl 4 rfl) ?_
        have hk115 := hw.1
        have hw := hw.2
        refine co_getr S hK hH 0 5 105 (by decide) ⟨by decide, rfl, rfl, rfl⟩ (Or.inl q266) hk111 (by rw [hk115]; decide) dX0_takesNear_216 ?_
        refine lv_bipush (v := 8) hx hb dX0_takesNear_219 (by decide) ?_
        refine co_calli (va_runV (As := [.int 8]) (rest := [.ref (mP M107 500 r73 0)]) S (m2_at l g AD M107 (mP M107 105 a0 0) 8 _ hk115 hw) (cwV 1 hts (lw_V q644 q603 q604 q56 q605) rfl rfl rfl (by decide +kernel) ⟨Nat.le_of_ble_eq_true rfl, Nat.le_of_ble_eq_true rfl⟩) ⟨co_blind, co_recv hK hH (c := 2) (by decide) hk115, co_pre hK hH hA hS⟩ rfl rfl hl.1 rfl (lv_room (Nat.le_of_ble_eq_true rfl)) dX0_takesNear_221 ⟨Nat.le_refl _, Nat.le_refl _⟩) hS (fun r117 M116 H locs hw hH hE118 hS => ?_)
        have hk120 := hE118.k hk111 (by decide)
        have hk121 := hE118.k hk112 (by decide)
        have hk122 := hE118.k hk113 (by decide)
        have hk123 := hE118.k hk114 (by decide)
        have hE := hE.tr hE118
        refine co_puti S hK hH hS 5 2 602 (by decide) ⟨by decide, rfl, rfl, rfl, rfl⟩ (Or.inr ⟨_, q156⟩) hk123 ⟨rfl, rfl⟩ dX0_takesNear_224 (fun H locs hH hS => ?_)
        obtain ⟨M124, eM124⟩ : ∃ y : Mm, y = sI M116 602 (mP M107 500 r73 0) 0 r117 := ⟨_, rfl⟩
        have hw := hw M124 eM124
        rw [← eM124] at hH
        have hE125 : Ext M116 M124 := by rw [eM124]; exact Ext.sI
        have hk126 := hE125.k hk120 (by decide)
        have hk127 := hE125.k hk121 (by decide)
        have hk128 := hE125.k hk122 (by decide)
        have hE := hE.tr hE125
        refine lv_aload hx hb dX0_takesNear_227 (lv_at hl 0 rfl) ?_
        have hk129 := hw.1
        have hw := hw.2
        refine co_getr S hK hH 4 0 500 (by decide) ⟨by decide, rfl, rfl, rfl⟩ (Or.inr ⟨_, q172⟩) hk128 (by rw [hk129]; decide) dX0_takesNear_229 ?_
        refine lv_aload_n hx hb dX0_takesNear_232 rfl (lv_at hl 4 rfl) ?_
        have hk130 := hw.1
        have hw := hw.2
        refine co_getr S hK hH 0 5 105 (by decide) ⟨by decide, rfl, rfl, rfl⟩ (Or.inl q266) hk126 (by rw [hk130]; decide) dX0_takesNear_233 ?_
        refine lv_bipush (v := 9) hx hb dX0_takesNear_236 (by decide) ?_
        refine co_calli (va_runV (As := [.int 9]) (rest := [.ref (mP M124 500 r73 0)]) S (m2_at l g AD M124 (mP M124 105 a0 0) 9 _ hk130 hw) (cwV 1 hts (lw_V q644 q603 q604 q56 q605) rfl rfl rfl (by decide +kernel) ⟨Nat.le_of_ble_eq_true rfl, Nat.le_of_ble_eq_true rfl⟩) ⟨co_blind, co_recv hK hH (c := 2) (by decide) hk130, co_pre hK hH hA hS⟩ rfl rfl hl.1 rfl (lv_room (Nat.le_of_ble_eq_true rfl)) dX0_takesNear_238 ⟨Nat.le_refl _, Nat.le_refl _⟩) hS (fun r132 M131 H locs hw hH hE133 hS => ?_)
        have hk135 := hE133.k hk126 (by decide)
        have hk136 := hE133.k hk127 (by decide)
        have hk137 := hE133.k hk128 (by decide)
        have hk138 := hE133.k hk129 (by decide)
        have hE := hE.tr hE133
        refine co_puti S hK hH hS 5 3 603 (by decide) ⟨by decide, rfl, rfl, rfl, rfl⟩ (Or.inr ⟨_, q161⟩) hk138 ⟨rfl, rfl⟩ dX0_takesNear_241 (fun H locs hH hS => ?_)
        obtain ⟨M139, eM139⟩ : ∃ y : Mm, y = sI M131 603 (mP M124 500 r73 0) 0 r132 := ⟨_, rfl⟩
        have hw := hw M139 eM139
        rw [← eM139] at hH
        have hE140 : Ext M131 M139 := by rw [eM139]; exact Ext.sI
        have hk141 := hE140.k hk135 (by decide)
        have hk142 := hE140.k hk136 (by decide)
        have hk143 := hE140.k hk137 (by decide)
        have hE := hE.tr hE140
        refine lv_aload_n hx hb dX0_takesNear_244 rfl (lv_at hl 4 rfl) ?_
        refine lv_aload_n hx hb dX0_takesNear_245 rfl (lv_at hl 4 rfl) ?_
        have hk144 := hw.1
        have hw := hw.2
        refine co_getr S hK hH 0 14 114 (by decide) ⟨by decide, rfl, rfl, rfl⟩ (Or.inl q275) hk141 (by rw [hk144]; decide) dX0_takesNear_246 ?_
        refine co_callr (va_runV (As := []) (rest := [.ref a0]) S (m3_newest l g AD M139 (mP M139 114 a0 0) _ hk144 hw) (cwV 0 hts (lw_V q536 q258 q259 q57 q260) rfl rfl rfl (by decide +kernel) ⟨Nat.le_of_ble_eq_true rfl, Nat.le_of_ble_eq_true rfl⟩) ⟨co_blind, co_recv hK hH (c := 3) (by decide) hk144, co_pre hK hH hA hS⟩ rfl rfl hl.1 rfl (lv_room (Nat.le_of_ble_eq_true rfl)) dX0_takesNear_249 ⟨Nat.le_refl _, Nat.le_refl _⟩) hS (fun r146 M145 H locs hw hH hE147 hk148 hS => ?_)
        have hk149 := hE147.k hk141 (by decide)
        have hk150 := hE147.k hk142 (by decide)
        have hk151 := hE147.k hk143 (by decide)
        have hE := hE.tr hE147
        have hk148 : mK M145 r146 = 5 := hk148
        refine co_callv (va_runV (As := [.ref r146]) (rest := []) S (m0_settles l g AD M145 a0 r146 _ hk149 hk148 hw) (cwV 1 hts (lw_V q698 q700 qs13 q54 q701) rfl rfl rfl (by decide +kernel) ⟨Nat.le_of_ble_eq_true rfl, Nat.le_of_ble_eq_true rfl⟩) ⟨co_blind, co_recv hK hH (c := 0) (by decide) hk149, co_pre hK hH hA hS⟩ rfl rfl hl.1 rfl (lv_room (Nat.le_of_ble_eq_true rfl)) dX0_takesNear_252 ⟨Nat.le_refl _, Nat.le_refl _⟩) hS (fun M152 H locs hw hH hE154 hS => ?_)
        have hk156 := hE154.k hk149 (by decide)
        have hk157 := hE154.k hk150 (by decide)
        have hk158 := hE154.k hk151 (by decide)
        have hE := hE.tr hE154
        exact r0_takesNear_255 S hr hlocks hK hA  _ _ _ hw hE hk156 _ _ hH hS _ (lv_sub hl [4, 3] rfl)
    · have hw := hw.1 c26
      refine lv_aload_n hx hb dX0_takesNear_57 rfl (lv_at hl 2 rfl) ?_
      have hk159 := hw.1
      have hw := hw.2
      refine co_getr S hK hH 0 3 103 (by decide) ⟨by decide, rfl, rfl, rfl⟩ (Or.inl q264) hk25 (by rw [hk159]; decide) dX0_takesNear_58 ?_
      refine lv_iconst (v := 4) hx hb dX0_takesNear_61 (by decide) ?_
      refine lv_dup2_11 hx hb dX0_takesNear_62 rfl rfl ?_
      have hin160 := hw.1
      have hw := hw.2
      refine co_iald S hK hH 4 24 ⟨by decide, rfl, rfl⟩ hk159 hin160 dX0_takesNear_63 ?_
      refine lv_iconst (v := 1) hx hb dX0_takesNear_64 (by decide) ?_
      refine lv_iadd hx hb dX0_takesNear_65 ?_
      have hin161 := hw.1
      have hw := hw.2
      refine co_iast S hK hH hS 4 24 ⟨by decide, rfl, rfl⟩ hk159 hin161 dX0_takesNear_66 (fun H locs hH hS => ?_)
      obtain ⟨M162, eM162⟩ : ∃ y : Mm, y = sI M21 24 (mP M21 103 a0 0) (4 : Int32).toNatClampNeg ((mI M21 24 (mP M21 103 a0 0) (4 : Int32).toNatClampNeg) + 1) := ⟨_, rfl⟩
      have hw := hw M162 eM162
      rw [← eM162] at hH
      have hE163 : Ext M21 M162 := by rw [eM162]; exact Ext.sI
      have hk164 := hE163.k hk25 (by decide)
      have hE := hE.tr hE163
      refine lv_aload_n hx hb dX0_takesNear_67 rfl (lv_at hl 2 rfl) ?_
      refine lv_aload_n hx hb dX0_takesNear_68 rfl (lv_at hl 2 rfl) ?_
      refine co_geti S hK hH 0 13 113 (by decide) ⟨by decide, rfl, rfl, rfl⟩ (Or.inl q274) hk164 dX0_takesNear_69 ?_
      refine lv_if_ne (tgt := 89) hx hb dX0_takesNear_72 (by decide) (fun c165 => ?_) (fun c165 => ?_)
      · have hw := hw.2 c165
        exact r0_takesNear_89 S hr hlocks hK hA  _ _ hw hE hk164 _ _ hH hS _ (lv_sub hl [] rfl)
      · have hw := hw.1 c165
        refine lv_iload_n hx hb dX0_takesNear_75 rfl (lv_at hl 1 rfl) ?_
        refine lv_aload_n hx hb dX0_takesNear_76 rfl (lv_at hl 2 rfl) ?_
        have hk169 := hw.1
        have hw := hw.2
        refine co_getr S hK hH 0 14 114 (by decide) ⟨by decide, rfl, rfl, rfl⟩ (Or.inl q275) hk164 (by rw [hk169]; decide) dX0_takesNear_77 ?_
        refine co_callr (va_runV (As := []) (rest := [.int r10, .ref a0]) S (m3_newest l g AD M162 (mP M162 114 a0 0) _ hk169 hw) (cwV 0 hts (lw_V q536 q258 q259 q57 q260) rfl rfl rfl (by decide +kernel) ⟨Nat.le_of_ble_eq_true rfl, Nat.le_of_ble_eq_true rfl⟩) ⟨co_blind, co_recv hK hH (c := 3) (by decide) hk169, co_pre hK hH hA hS⟩ rfl rfl hl.1 rfl (lv_room (Nat.le_of_ble_eq_true rfl)) dX0_takesNear_80 ⟨Nat.le_refl _, Nat.le_refl _⟩) hS (fun r171 M170 H locs hw hH hE172 hk173 hS => ?_)
        have hk174 := hE172.k hk164 (by decide)
        have hE := hE.tr hE172
        have hk173 : mK M170 r171 = 5 := hk173
        refine co_geti S hK hH 4 1 501 (by decide) ⟨by decide, rfl, rfl, rfl⟩ (Or.inr ⟨_, q175⟩) hk173 dX0_takesNear_83 ?_
        refine lv_icmp_ge (tgt := 93) hx hb dX0_takesNear_86 (by decide) (fun c175 => ?_) (fun c175 => ?_)
        · have hw := hw.1 c175
          refine lv_iconst (v := 0) hx hb dX0_takesNear_93 (by decide) ?_
          exact r0_takesNear_94 S hr hlocks hK hA  _ _ _ hw hE hk174 _ _ hH hS _ (lv_sub hl [] rfl)
        · have hw := hw.2 c175
          exact r0_takesNear_89 S hr hlocks hK hA  _ _ hw hE hk174 _ _ hH hS _ (lv_sub hl [] rfl)
  · have hw := hw.2 c7
    refine lv_aload_n hx hb dX0_takesNear_15 rfl (lv_at hl 0 rfl) ?_
    have hk176 := hw.1
    have hw := hw.2
    refine co_getr S hK hH 0 3 103 (by decide) ⟨by decide, rfl, rfl, rfl⟩ (Or.inl q264) hk6 (by rw [hk176]; decide) dX0_takesNear_16 ?_
    refine lv_iconst (v := 2) hx hb dX0_takesNear_19 (by decide) ?_
    refine lv_dup2_11 hx hb dX0_takesNear_20 rfl rfl ?_
    have hin177 := hw.1
    have hw := hw.2
    refine co_iald S hK hH 4 24 ⟨by decide, rfl, rfl⟩ hk176 hin177 dX0_takesNear_21 ?_
    refine lv_iconst (v := 1) hx hb dX0_takesNear_22 (by decide) ?_
    refine lv_iadd hx hb dX0_takesNear_23 ?_
    have hin178 := hw.1
    have hw := hw.2
    refine co_iast S hK hH hS 4 24 ⟨by decide, rfl, rfl⟩ hk176 hin178 dX0_takesNear_24 (fun H locs hH hS => ?_)
    obtain ⟨M179, eM179⟩ : ∃ y : Mm, y = sI M2 24 (mP M2 103 a0 0) (2 : Int32).toNatClampNeg ((mI M2 24 (mP M2 103 a0 0) (2 : Int32).toNatClampNeg) + 1) := ⟨_, rfl⟩
    have hw := hw M179 eM179
    rw [← eM179] at hH
    have hE180 : Ext M2 M179 := by rw [eM179]; exact Ext.sI
    have hk181 := hE180.k hk6 (by decide)
    have hE := hE.tr hE180
    refine lv_iconst (v := 0) hx hb dX0_takesNear_25 (by decide) ?_
    exact co_zret S hr hlocks hH hE hS rfl hw dX0_takesNear_26
