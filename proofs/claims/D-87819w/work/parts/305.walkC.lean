/-! FarTypewriter.bytes(LFarTypewriter$Screen;LFarTypewriter$Screen;IZ)I -/
abbrev rm0_bytes : Room := { frames := 3, cells := 0, slots := 0, locals := 224 }
def w0_bytes_185 (post : Int32 → Mm → Prop) (kb : Mm → Nat → Nat → Int32 → Int32 → Int32 → Int32 → Int32 → Int32 → Int32 → Prop) (k228 : Mm → Nat → Nat → Int32 → Int32 → Int32 → Prop) (M : Mm) (a0 : Nat) (a2 : Nat) (x4 : Int32) (x5 : Int32) (x6 : Int32) (x7 : Int32) (x8 : Int32) (x9 : Int32) (x10 : Int32) (t0 : Int32) (t1 : Int32) : Prop :=
  (t0 < t1 → k228 M a0 a2 x4 x5 x6) ∧ (¬ t0 < t1 → mK M (mP M 105 a0 0) = 3 ∧ (mK M (mP M 600 a2 0) = 21 ∧ (vp_in x6 8 ∧ (mK M (mP M 21 (mP M 600 a2 0) x6.toNatClampNeg) = 20 ∧ (vp_in x10 24 ∧ (w2_put (fun (M79 : Mm) => mK M79 (mP M79 105 a0 0) = 3 ∧ (mK M79 (mP M79 601 a2 0) = 21 ∧ (vp_in x6 8 ∧ (mK M79 (mP M79 21 (mP M79 601 a2 0) x6.toNatClampNeg) = 20 ∧ (vp_in x10 24 ∧ (w2_put (fun (M90 : Mm) => kb M90 a0 a2 x4 x5 x6 x7 x8 x9 (x10 + 1)) M79 (mP M79 105 a0 0) (mI M79 20 (mP M79 21 (mP M79 601 a2 0) x6.toNatClampNeg) x10.toNatClampNeg))))))) M (mP M 105 a0 0) (mI M 20 (mP M 21 (mP M 600 a2 0) x6.toNatClampNeg) x10.toNatClampNeg)))))))
set_option maxHeartbeats 4000000 in
set_option maxRecDepth 100000 in
theorem r0_bytes_185 {p : Program} {l : Launch} {e : Env} {s : State} {m : MethodId} {args : Array Value} {below : List Frame} {meth : Method} {c : Code} {g : CG} {AD : Nat → Prop} {M0 : Mm} (S : CallFix p m c cX0_bytes 11 s args lw_all RX0) (hr : meth.sig.returnType = (some .int)) (hlocks : meth.locks = false) (hK : KC g s) (hA : ∀ q, s.heap.size ≤ q → AD q) {post : Int32 → Mm → Prop} {kb : Mm → Nat → Nat → Int32 → Int32 → Int32 → Int32 → Int32 → Int32 → Int32 → Prop} (hkb : ∀ (M : Mm) (a0 : Nat) (a2 : Nat) (x4 : Int32) (x5 : Int32) (x6 : Int32) (x7 : Int32) (x8 : Int32) (x9 : Int32) (x10 : Int32), kb M a0 a2 x4 x5 x6 x7 x8 x9 x10 → Ext M0 M → mK M a0 = 1 → mK M a2 = 6 → ∀ (H : Heap) (locs : List Loc), HC g AD M H → va_S AD s.heap H locs → ∀ (ls : Array Slot), lv_has ls 11 [(0, .ref a0), (2, .ref a2), (4, .int x4), (5, .int x5), (6, .int x6), (7, .int x7), (8, .int x8), (9, .int x9), (10, .int x10)] → W p l e rm0_bytes s m args below meth c H locs 0 0 (MQ below (CQi g AD M0 post) args s 0 0 AD) (F0 m 171 ls [])) {k228 : Mm → Nat → Nat → Int32 → Int32 → Int32 → Prop} (hk228 : ∀ (M : Mm) (a0 : Nat) (a2 : Nat) (x4 : Int32) (x5 : Int32) (x6 : Int32), k228 M a0 a2 x4 x5 x6 → Ext M0 M → mK M a0 = 1 → mK M a2 = 6 → ∀ (H : Heap) (locs : List Loc), HC g AD M H → va_S AD s.heap H locs → ∀ (ls : Array Slot), lv_has ls 11 [(0, .ref a0), (2, .ref a2), (4, .int x4), (5, .int x5), (6, .int x6)] → W p l e rm0_bytes s m args below meth c H locs 0 0 (MQ below (CQi g AD M0 post) args s 0 0 AD) (F0 m 228 ls [])) : ∀ (M : Mm) (a0 : Nat) (a2 : Nat) (x4 : Int32) (x5 : Int32) (x6 : Int32) (x7 : Int32) (x8 : Int32) (x9 : Int32) (x10 : Int32) (t0 : Int32) (t1 : Int32), w0_bytes_185 post kb k228 M a0 a2 x4 x5 x6 x7 x8 x9 x10 t0 t1 → Ext M0 M → mK M a0 = 1 → mK M a2 = 6 → ∀ (H : Heap) (locs : List Loc), HC g AD M H → va_S AD s.heap H locs → ∀ (ls : Array Slot), lv_has ls 11 [(0, .ref a0), (2, .ref a2), (4, .int x4), (5, .int x5), (6, .int x6), (7, .int x7), (8, .int x8), (9, .int x9), (10, .int x10)] → W p l e rm0_bytes s m args below meth c H locs 0 0 (MQ below (CQi g AD M0 post) args s 0 0 AD) (F0 m 185 ls [.int t0, .int t1]) := by
  have hx := S.1
  have hb := S.2.1
  have hown := S.2.2.2.1
  have hts := S.2.2.2.2
  intro M a0 a2 x4 x5 x6 x7 x8 x9 x10 t0 t1 hw hE hk_a0 hk_a2 H locs hH hS ls hl
  unfold w0_bytes_185 at hw
  refine lv_icmp_gt (tgt := 228) hx hb dX0_bytes_185 (by decide) (fun c73 => ?_) (fun c73 => ?_)
  · have hw := hw.1 c73
    exact hk228 _ _ _ _ _ _ hw hE hk_a0 hk_a2 _ _ hH hS _ (lv_sub hl [0, 1, 2, 3, 4] rfl)
  · have hw := hw.2 c73
    refine lv_aload_n hx hb dX0_bytes_188 rfl (lv_at hl 0 rfl) ?_
    have hk74 := hw.1
    have hw := hw.2
    refine co_getr S hK hH 0 5 105 (by decide) ⟨by decide, rfl, rfl, rfl⟩ (Or.inl q266) hk_a0 (by rw [hk74]; decide) dX0_bytes_189 ?_
    refine lv_aload_n hx hb dX0_bytes_192 rfl (lv_at hl 1 rfl) ?_
    have hk75 := hw.1
    have hw := hw.2
    refine co_getr S hK hH 5 0 600 (by decide) ⟨by decide, rfl, rfl, rfl⟩ (Or.inr ⟨_, q150⟩) hk_a2 (by rw [hk75]; decide) dX0_bytes_193 ?_
    refine lv_iload hx hb dX0_bytes_196 (lv_at hl 4 rfl) ?_
    have hin76 := hw.1
    have hw := hw.2
    have hk77 := hw.1
    have hw := hw.2
    refine co_aald S hK hH 1 21 ⟨by decide, rfl, rfl⟩ hk75 hin76 (by rw [hk77]; decide) dX0_bytes_198 ?_
    refine lv_iload hx hb dX0_bytes_199 (lv_at hl 8 rfl) ?_
    have hin78 := hw.1
    have hw := hw.2
    refine co_bald S hK hH 0 20 ⟨by decide, rfl, rfl⟩ hk77 hin78 dX0_bytes_201 ?_
    refine co_callv (va_runV (As := [.int (mI M 20 (mP M 21 (mP M 600 a2 0) x6.toNatClampNeg) x10.toNatClampNeg)]) (rest := []) S (m2_put l g AD M (mP M 105 a0 0) (mI M 20 (mP M 21 (mP M 600 a2 0) x6.toNatClampNeg) x10.toNatClampNeg) _ hk74 hw) (cwV 1 hts (lw_V q569 q570 q571 q56 q572) rfl rfl rfl (by decide +kernel) ⟨Nat.le_of_ble_eq_true rfl, Nat.le_of_ble_eq_true rfl⟩) ⟨co_blind, co_recv hK hH (c := 2) (by decide) hk74, co_pre hK hH hA hS⟩ rfl rfl hl.1 rfl (lv_room (Nat.le_of_ble_eq_true rfl)) dX0_bytes_202 ⟨Nat.le_refl _, Nat.le_refl _⟩) hS (fun M79 H locs hw hH hE81 hS => ?_)
    have hk83 := hE81.k hk_a0 (by decide)
    have hk84 := hE81.k hk_a2 (by decide)
    have hE := hE.tr hE81
    refine lv_aload_n hx hb dX0_bytes_205 rfl (lv_at hl 0 rfl) ?_
    have hk85 := hw.1
    have hw := hw.2
    refine co_getr S hK hH 0 5 105 (by decide) ⟨by decide, rfl, rfl, rfl⟩ (Or.inl q266) hk83 (by rw [hk85]; decide) dX0_bytes_206 ?_
    refine lv_aload_n hx hb dX0_bytes_209 rfl (lv_at hl 1 rfl) ?_
    have hk86 := hw.1
    have hw := hw.2
    refine co_getr S hK hH 5 1 601 (by decide) ⟨by decide, rfl, rfl, rfl⟩ (Or.inr ⟨_, q152⟩) hk84 (by rw [hk86]; decide) dX0_bytes_210 ?_
    refine lv_iload hx hb dX0_bytes_213 (lv_at hl 4 rfl) ?_
    have hin87 := hw.1
    have hw := hw.2
    have hk88 := hw.1
    have hw := hw.2
    refine co_aald S hK hH 1 21 ⟨by decide, rfl, rfl⟩ hk86 hin87 (by rw [hk88]; decide) dX0_bytes_215 ?_
    refine lv_iload hx hb dX0_bytes_216 (lv_at hl 8 rfl) ?_
    have hin89 := hw.1
    have hw := hw.2
    refine co_bald S hK hH 0 20 ⟨by decide, rfl, rfl⟩ hk88 hin89 dX0_bytes_218 ?_
    refine co_callv (va_runV (As := [.int (mI M79 20 (mP M79 21 (mP M79 601 a2 0) x6.toNatClampNeg) x10.toNatClampNeg)]) (rest := []) S (m2_put l g AD M79 (mP M79 105 a0 0) (mI M79 20 (mP M79 21 (mP M79 601 a2 0) x6.toNatClampNeg) x10.toNatClampNeg) _ hk85 hw) (cwV 1 hts (lw_V q569 q570 q571 q56 q572) rfl rfl rfl (by decide +kernel) ⟨Nat.le_of_ble_eq_true rfl, Nat.le_of_ble_eq_true rfl⟩) ⟨co_blind, co_recv hK hH (c := 2) (by decide) hk85, co_pre hK hH hA hS⟩ rfl rfl hl.1 rfl (lv_room (Nat.le_of_ble_eq_true rfl)) dX0_bytes_219 ⟨Nat.le_refl _, Nat.le_refl _⟩) hS (fun M90 H locs hw hH hE92 hS => ?_)
    have hk94 := hE92.k hk83 (by decide)
    have hk95 := hE92.k hk84 (by decide)
    have hE := hE.tr hE92
    refine lv_iinc (v := x10 + 1) (lv' := [(10, .int (x10 + 1)), (0, .ref a0), (2, .ref a2), (4, .int x4), (5, .int x5), (6, .int x6), (7, .int x7), (8, .int x8), (9, .int x9)]) hx hb dX0_bytes_222 hl (k := 8) rfl rfl (by decide) rfl (fun ls hl => ?_)
    refine lv_goto (tgt := 171) hx hb dX0_bytes_225 (by decide) ?_
    exact hkb _ _ _ _ _ _ _ _ _ _ hw hE hk94 hk95 _ _ hH hS _ (lv_sub hl [1, 2, 3, 4, 5, 6, 7, 8, 0] rfl)
def b0_bytes_171 (post : Int32 → Mm → Prop) (k228 : Mm → Nat → Nat → Int32 → Int32 → Int32 → Prop) (kb : Mm → Nat → Nat → Int32 → Int32 → Int32 → Int32 → Int32 → Int32 → Int32 → Prop) (M : Mm) (a0 : Nat) (a2 : Nat) (x4 : Int32) (x5 : Int32) (x6 : Int32) (x7 : Int32) (x8 : Int32) (x9 : Int32) (x10 : Int32) : Prop :=
  (x9 = 0 → w0_bytes_185 post kb k228 M a0 a2 x4 x5 x6 x7 x8 x9 x10 x8 x10) ∧ (¬ x9 = 0 → w0_bytes_185 post kb k228 M a0 a2 x4 x5 x6 x7 x8 x9 x10 x7 x10)
def w0_bytes_171 (post : Int32 → Mm → Prop) (k228 : Mm → Nat → Nat → Int32 → Int32 → Int32 → Prop) : Nat → Mm → Nat → Nat → Int32 → Int32 → Int32 → Int32 → Int32 → Int32 → Int32 → Prop
  | 0 => fun _ _ _ _ _ _ _ _ _ _ => False
  | n + 1 => b0_bytes_171 post k228 (w0_bytes_171 post k228 n)
set_option maxHeartbeats 4000000 in
set_option maxRecDepth 100000 in
theorem r0_bytes_171 {p : Program} {l : Launch} {e : Env} {s : State} {m : MethodId} {args : Array Value} {below : List Frame} {meth : Method} {c : Code} {g : CG} {AD : Nat → Prop} {M0 : Mm} (S : CallFix p m c cX0_bytes 11 s args lw_all RX0) (hr : meth.sig.returnType = (some .int)) (hlocks : meth.locks = false) (hK : KC g s) (hA : ∀ q, s.heap.size ≤ q → AD q) {post : Int32 → Mm → Prop} {k228 : Mm → Nat → Nat → Int32 → Int32 → Int32 → Prop} (hk228 : ∀ (M : Mm) (a0 : Nat) (a2 : Nat) (x4 : Int32) (x5 : Int32) (x6 : Int32), k228 M a0 a2 x4 x5 x6 → Ext M0 M → mK M a0 = 1 → mK M a2 = 6 → ∀ (H : Heap) (locs : List Loc), HC g AD M H → va_S AD s.heap H locs → ∀ (ls : Array Slot), lv_has ls 11 [(0, .ref a0), (2, .ref a2), (4, .int x4), (5, .int x5), (6, .int x6)] → W p l e rm0_bytes s m args below meth c H locs 0 0 (MQ below (CQi g AD M0 post) args s 0 0 AD) (F0 m 228 ls [])) : ∀ n : Nat, ∀ (M : Mm) (a0 : Nat) (a2 : Nat) (x4 : Int32) (x5 : Int32) (x6 : Int32) (x7 : Int32) (x8 : Int32) (x9 : Int32) (x10 : Int32), w0_bytes_171 post k228 n M a0 a2 x4 x5 x6 x7 x8 x9 x10 → Ext M0 M → mK M a0 = 1 → mK M a2 = 6 → ∀ (H : Heap) (locs : List Loc), HC g AD M H → va_S AD s.heap H locs → ∀ (ls : Array Slot), lv_has ls 11 [(0, .ref a0), (2, .ref a2), (4, .int x4), (5, .int x5), (6, .int x6), (7, .int x7), (8, .int x8), (9, .int x9), (10, .int x10)] → W p l e rm0_bytes s m args below meth c H locs 0 0 (MQ below (CQi g AD M0 post) args s 0 0 AD) (F0 m 171 ls []) := by
  have hx := S.1
  have hb := S.2.1
  have hown := S.2.2.2.1
  have hts := S.2.2.2.2
  intro n
  induction n with
  | zero =>
    intro M a0 a2 x4 x5 x6 x7 x8 x9 x10 hw
    exact hw.elim
  | succ n hkb =>
    intro M a0 a2 x4 x5 x6 x7 x8 x9 x10 hw hE hk_a0 hk_a2 H locs hH hS ls hl
    unfold w0_bytes_171 b0_bytes_171 at hw
    refine lv_iload hx hb dX0_bytes_171 (lv_at hl 8 rfl) ?_
    refine lv_iload hx hb dX0_bytes_173 (lv_at hl 7 rfl) ?_
    refine lv_if_eq (tgt := 183) hx hb dX0_bytes_175 (by decide) (fun c72 => ?_) (fun c72 => ?_)
    · have hw := hw.1 c72
      refine lv_iload hx hb dX0_bytes_183 (lv_at hl 6 rfl) ?_
      exact r0_bytes_185 S hr hlocks hK hA hkb hk228 _ _ _ _ _ _ _ _ _ _ _ _ hw hE hk_a0 hk_a2 _ _ hH hS _ (lv_sub hl [0, 1, 2, 3, 4, 5, 6, 7, 8] rfl)
    · have hw := hw.2 c72
      refine lv_iload hx hb dX0_bytes_178 (lv_at hl 5 rfl) ?_
      refine lv_goto (tgt := 185) hx hb dX0_bytes_180 (by decide) ?_
      exact r0_bytes_185 S hr hlocks hK hA hkb hk228 _ _ _ _ _ _ _ _ _ _ _ _ hw hE hk_a0 hk_a2 _ _ hH hS _ (lv_sub hl [0, 1, 2, 3, 4, 5, 6, 7, 8] rfl)
def w0_bytes_228 (post : Int32 → Mm → Prop) (kb : Mm → Nat → Nat → Int32 → Int32 → Int32 → Prop) (M : Mm) (a0 : Nat) (a2 : Nat) (x4 : Int32) (x5 : Int32) (x6 : Int32) : Prop :=
  kb M a0 a2 x4 x5 (x6 + 1)
set_option maxHeartbeats 4000000 in
set_option maxRecDepth 100000 in
theorem r0_bytes_228 {p : Program} {l : Launch} {e : Env} {s : State} {m : MethodId} {args : Array Value} {below : List Frame} {meth : Method} {c : Code} {g : CG} {AD : Nat → Prop} {M0 : Mm} (S : CallFix p m c cX0_bytes 11 s args lw_all RX0) (hr : meth.sig.returnType = (some .int)) (hlocks : meth.locks = false) (hK : KC g s) (hA : ∀ q, s.heap.size ≤ q → AD q) {post : Int32 → Mm → Prop} {kb : Mm → Nat → Nat → Int32 → Int32 → Int32 → Prop} (hkb : ∀ (M : Mm) (a0 : Nat) (a2 : Nat) (x4 : Int32) (x5 : Int32) (x6 : Int32), kb M a0 a2 x4 x5 x6 → Ext M0 M → mK M a0 = 1 → mK M a2 = 6 → ∀ (H : Heap) (locs : List Loc), HC g AD M H → va_S AD s.heap H locs → ∀ (ls : Array Slot), lv_has ls 11 [(0, .ref a0), (2, .ref a2), (4, .int x4), (5, .int x5), (6, .int x6)] → W p l e rm0_bytes s m args below meth c H locs 0 0 (MQ below (CQi g AD M0 post) args s 0 0 AD) (F0 m 35 ls [])) : ∀ (M : Mm) (a0 : Nat) (a2 : Nat) (x4 : Int32) (x5 : Int32) (x6 : Int32), w0_bytes_228 post kb M a0 a2 x4 x5 x6 → Ext M0 M → mK M a0 = 1 → mK M a2 = 6 → ∀ (H : Heap) (locs : List Loc), HC g AD M H → va_S AD s.heap H locs → ∀ (ls : Array Slot), lv_has ls 11 [(0, .ref a0), (2, .ref a2), (4, .int x4), (5, .int x5), (6, .int x6)] → W p l e rm0_bytes s m args below meth c H locs 0 0 (MQ below (CQi g AD M0 post) args s 0 0 AD) (F0 m 228 ls []) := by
  have hx := S.1
  have hb := S.2.1
  have hown := S.2.2.2.1
  have hts := S.2.2.2.2
  intro M a0 a2 x4 x5 x6 hw hE hk_a0 hk_a2 H locs hH hS ls hl
  unfold w0_bytes_228 at hw
  refine lv_iinc (v := x6 + 1) (lv' := [(6, .int (x6 + 1)), (0, .ref a0), (2, .ref a2), (4, .int x4), (5, .int x5)]) hx hb dX0_bytes_228 hl (k := 4) rfl rfl (by decide) rfl (fun ls hl => ?_)
  refine lv_goto (tgt := 35) hx hb dX0_bytes_231 (by decide) ?_
  exact hkb _ _ _ _ _ _ hw hE hk_a0 hk_a2 _ _ hH hS _ (lv_sub hl [1, 2, 3, 4, 0] rfl)
def w0_bytes_146 (post : Int32 → Mm → Prop) (kb : Mm → Nat → Nat → Int32 → Int32 → Int32 → Prop) (M : Mm) (a0 : Nat) (a2 : Nat) (x4 : Int32) (x5 : Int32) (x6 : Int32) (x7 : Int32) (x8 : Int32) (x9 : Int32) (t0 : Int32) (b1 : Nat) : Prop :=
  w2_put (fun (M52 : Mm) => mK M52 (mP M52 105 a0 0) = 3 ∧ (w2_put (fun (M59 : Mm) => mK M59 (mP M59 105 a0 0) = 3 ∧ (w2_put (fun (M66 : Mm) => ∃ n, w0_bytes_171 post (fun (M101 : Mm) (a0_96 : Nat) (a2_97 : Nat) (x4_98 : Int32) (x5_99 : Int32) (x6_100 : Int32) => w0_bytes_228 post kb M101 a0_96 a2_97 x4_98 x5_99 x6_100) n M66 a0 a2 x4 x5 x6 x7 x8 x9 x7) M59 (mP M59 105 a0 0) x8)) M52 (mP M52 105 a0 0) x7)) M b1 t0
set_option maxHeartbeats 4000000 in
set_option maxRecDepth 100000 in
theorem r0_bytes_146 {p : Program} {l : Launch} {e : Env} {s : State} {m : MethodId} {args : Array Value} {below : List Frame} {meth : Method} {c : Code} {g : CG} {AD : Nat → Prop} {M0 : Mm} (S : CallFix p m c cX0_bytes 11 s args lw_all RX0) (hr : meth.sig.returnType = (some .int)) (hlocks : meth.locks = false) (hK : KC g s) (hA : ∀ q, s.heap.size ≤ q → AD q) {post : Int32 → Mm → Prop} {kb : Mm → Nat → Nat → Int32 → Int32 → Int32 → Prop} (hkb : ∀ (M : Mm) (a0 : Nat) (a2 : Nat) (x4 : Int32) (x5 : Int32) (x6 : Int32), kb M a0 a2 x4 x5 x6 → Ext M0 M → mK M a0 = 1 → mK M a2 = 6 → ∀ (H : Heap) (locs : List Loc), HC g AD M H → va_S AD s.heap H locs → ∀ (ls : Array Slot), lv_has ls 11 [(0, .ref a0), (2, .ref a2), (4, .int x4), (5, .int x5), (6, .int x6)] → W p l e rm0_bytes s m args below meth c H locs 0 0 (MQ below (CQi g AD M0 post) args s 0 0 AD) (F0 m 35 ls [])) : ∀ (M : Mm) (a0 : Nat) (a2 : Nat) (x4 : Int32) (x5 : Int32) (x6 : Int32) (x7 : Int32) (x8 : Int32) (x9 : Int32) (t0 : Int32) (b1 : Nat), w0_bytes_146 post kb M a0 a2 x4 x5 x6 x7 x8 x9 t0 b1 → Ext M0 M → mK M a0 = 1 → mK M a2 = 6 → mK M b1 = 3 → ∀ (H : Heap) (locs : List Loc), HC g AD M H → va_S AD s.heap H locs → ∀ (ls : Array Slot), lv_has ls 11 [(0, .ref a0), (2, .ref a2), (4, .int x4), (5, .int x5), (6, .int x6), (7, .int x7), (8, .int x8), (9, .int x9)] → W p l e rm0_bytes s m args below meth c H locs 0 0 (MQ below (CQi g AD M0 post) args s 0 0 AD) (F0 m 146 ls [.int t0, .ref b1]) := by
  have hx := S.1
  have hb := S.2.1
  have hown := S.2.2.2.1
  have hts := S.2.2.2.2
  intro M a0 a2 x4 x5 x6 x7 x8 x9 t0 b1 hw hE hk_a0 hk_a2 hk_b1 H locs hH hS ls hl
  unfold w0_bytes_146 at hw
  refine co_callv (va_runV (As := [.int t0]) (rest := []) S (m2_put l g AD M b1 t0 _ hk_b1 hw) (cwV 1 hts (lw_V q569 q570 q571 q56 q572) rfl rfl rfl (by decide +kernel) ⟨Nat.le_of_ble_eq_true rfl, Nat.le_of_ble_eq_true rfl⟩) ⟨co_blind, co_recv hK hH (c := 2) (by decide) hk_b1, co_pre hK hH hA hS⟩ rfl rfl hl.1 rfl (lv_room (Nat.le_of_ble_eq_true rfl)) dX0_bytes_146 ⟨Nat.le_refl _, Nat.le_refl _⟩) hS (fun M52 H locs hw hH hE54 hS => ?_)
  have hk56 := hE54.k hk_a0 (by decide)
  have hk57 := hE54.k hk_a2 (by decide)
  have hE := hE.tr hE54
  refine lv_aload_n hx hb dX0_bytes_149 rfl (lv_at hl 0 rfl) ?_
  have hk58 := hw.1
  have hw := hw.2
  refine co_getr S hK hH 0 5 105 (by decide) ⟨by decide, rfl, rfl, rfl⟩ (Or.inl q266) hk56 (by rw [hk58]; decide) dX0_bytes_150 ?_
  refine lv_iload hx hb dX0_bytes_153 (lv_at hl 5 rfl) ?_
  refine co_callv (va_runV (As := [.int x7]) (rest := []) S (m2_put l g AD M52 (mP M52 105 a0 0) x7 _ hk58 hw) (cwV 1 hts (lw_V q569 q570 q571 q56 q572) rfl rfl rfl (by decide +kernel) ⟨Nat.le_of_ble_eq_true rfl, Nat.le_of_ble_eq_true rfl⟩) ⟨co_blind, co_recv hK hH (c := 2) (by decide) hk58, co_pre hK hH hA hS⟩ rfl rfl hl.1 rfl (lv_room (Nat.le_of_ble_eq_true rfl)) dX0_bytes_155 ⟨Nat.le_refl _, Nat.le_refl _⟩) hS (fun M59 H locs hw hH hE61 hS => ?_)
  have hk63 := hE61.k hk56 (by decide)
  have hk64 := hE61.k hk57 (by decide)
  have hE := hE.tr hE61
  refine lv_aload_n hx hb dX0_bytes_158 rfl (lv_at hl 0 rfl) ?_
  have hk65 := hw.1
  have hw := hw.2
  refine co_getr S hK hH 0 5 105 (by decide) ⟨by decide, rfl, rfl, rfl⟩ (Or.inl q266) hk63 (by rw [hk65]; decide) dX0_bytes_159 ?_
  refine lv_iload hx hb dX0_bytes_162 (lv_at hl 6 rfl) ?_
  refine co_callv (va_runV (As := [.int x8]) (rest := []) S (m2_put l g AD M59 (mP M59 105 a0 0) x8 _ hk65 hw) (cwV 1 hts (lw_V q569 q570 q571 q56 q572) rfl rfl rfl (by decide +kernel) ⟨Nat.le_of_ble_eq_true rfl, Nat.le_of_ble_eq_true rfl⟩) ⟨co_blind, co_recv hK hH (c := 2) (by decide) hk65, co_pre hK hH hA hS⟩ rfl rfl hl.1 rfl (lv_room (Nat.le_of_ble_eq_true rfl)) dX0_bytes_164 ⟨Nat.le_refl _, Nat.le_refl _⟩) hS (fun M66 H locs hw hH hE68 hS => ?_)
  have hk70 := hE68.k hk63 (by decide)
  have hk71 := hE68.k hk64 (by decide)
  have hE := hE.tr hE68
  refine lv_iload hx hb dX0_bytes_167 (lv_at hl 5 rfl) ?_
  refine lv_istore (lv' := [(10, .int x7), (0, .ref a0), (2, .ref a2), (4, .int x4), (5, .int x5), (6, .int x6), (7, .int x7), (8, .int x8), (9, .int x9)]) hx hb dX0_bytes_169 hl (by decide) rfl (fun ls hl => ?_)
  obtain ⟨n, hw⟩ := hw
  refine r0_bytes_171 S hr hlocks hK hA (fun M101 a0_96 a2_97 x4_98 x5_99 x6_100 hw hE hk_a0_96 hk_a2_97 H locs hH hS ls hl => ?_) n _ _ _ _ _ _ _ _ _ _ hw hE hk70 hk71 _ _ hH hS _ (lv_sub hl [1, 2, 3, 4, 5, 6, 7, 8, 0] rfl)
  exact r0_bytes_228 S hr hlocks hK hA hkb _ _ _ _ _ _ hw hE hk_a0_96 hk_a2_97 _ _ hH hS _ (lv_sub hl [0, 1, 2, 3, 4] rfl)
def w0_bytes_112 (post : Int32 → Mm → Prop) (kb : Mm → Nat → Nat → Int32 → Int32 → Int32 → Prop) (M : Mm) (a0 : Nat) (a2 : Nat) (x4 : Int32) (x6 : Int32) (x7 : Int32) (x8 : Int32) (x9 : Int32) (t0 : Int32) (t1 : Int32) : Prop :=
  ∀ y5_41 : Int32, y5_41 = t1 + t0 → ((x4 = 0 → w0_bytes_228 post kb M a0 a2 x4 y5_41 x6) ∧ (¬ x4 = 0 → mK M (mP M 105 a0 0) = 3 ∧ (w2_put (fun (M44 : Mm) => mK M44 (mP M44 105 a0 0) = 3 ∧ ((x9 = 0 → w0_bytes_146 post kb M44 a0 a2 x4 y5_41 x6 x7 x8 x9 0 (mP M44 105 a0 0)) ∧ (¬ x9 = 0 → w0_bytes_146 post kb M44 a0 a2 x4 y5_41 x6 x7 x8 x9 1 (mP M44 105 a0 0)))) M (mP M 105 a0 0) x6)))
set_option maxHeartbeats 4000000 in
set_option maxRecDepth 100000 in
theorem r0_bytes_112 {p : Program} {l : Launch} {e : Env} {s : State} {m : MethodId} {args : Array Value} {below : List Frame} {meth : Method} {c : Code} {g : CG} {AD : Nat → Prop} {M0 : Mm} (S : CallFix p m c cX0_bytes 11 s args lw_all RX0) (hr : meth.sig.returnType = (some .int)) (hlocks : meth.locks = false) (hK : KC g s) (hA : ∀ q, s.heap.size ≤ q → AD q) {post : Int32 → Mm → Prop} {kb : Mm → Nat → Nat → Int32 → Int32 → Int32 → Prop} (hkb : ∀ (M : Mm) (a0 : Nat) (a2 : Nat) (x4 : Int32) (x5 : Int32) (x6 : Int32), kb M a0 a2 x4 x5 x6 → Ext M0 M → mK M a0 = 1 → mK M a2 = 6 → ∀ (H : Heap) (locs : List Loc), HC g AD M H → va_S AD s.heap H locs → ∀ (ls : Array Slot), lv_has ls 11 [(0, .ref a0), (2, .ref a2), (4, .int x4), (5, .int x5), (6, .int x6)] → W p l e rm0_bytes s m args below meth c H locs 0 0 (MQ below (CQi g AD M0 post) args s 0 0 AD) (F0 m 35 ls [])) : ∀ (M : Mm) (a0 : Nat) (a2 : Nat) (x4 : Int32) (x6 : Int32) (x7 : Int32) (x8 : Int32) (x9 : Int32) (t0 : Int32) (t1 : Int32), w0_bytes_112 post kb M a0 a2 x4 x6 x7 x8 x9 t0 t1 → Ext M0 M → mK M a0 = 1 → mK M a2 = 6 → ∀ (H : Heap) (locs : List Loc), HC g AD M H → va_S AD s.heap H locs → ∀ (ls : Array Slot), lv_has ls 11 [(0, .ref a0), (2, .ref a2), (4, .int x4), (6, .int x6), (7, .int x7), (8, .int x8), (9, .int x9)] → W p l e rm0_bytes s m args below meth c H locs 0 0 (MQ below (CQi g AD M0 post) args s 0 0 AD) (F0 m 112 ls [.int t0, .int t1]) := by
  have hx := S.1
  have hb := S.2.1
  have hown := S.2.2.2.1
  have hts := S.2.2.2.2
  intro M a0 a2 x4 x6 x7 x8 x9 t0 t1 hw hE hk_a0 hk_a2 H locs hH hS ls hl
  unfold w0_bytes_112 at hw
  refine lv_iadd hx hb dX0_bytes_112 ?_
  refine lv_topi (fun y5_41 ey5_41 => ?_)
  have hw := hw y5_41 ey5_41
  refine lv_istore (lv' := [(5, .int y5_41), (0, .ref a0), (2, .ref a2), (4, .int x4), (6, .int x6), (7, .int x7), (8, .int x8), (9, .int x9)]) hx hb dX0_bytes_113 hl (by decide) rfl (fun ls hl => ?_)
  refine lv_iload hx hb dX0_bytes_115 (lv_at hl 3 rfl) ?_
  refine lv_if_ne (tgt := 123) hx hb dX0_bytes_117 (by decide) (fun c42 => ?_) (fun c42 => ?_)
  · have hw := hw.2 c42
    refine lv_aload_n hx hb dX0_bytes_123 rfl (lv_at hl 1 rfl) ?_
    have hk43 := hw.1
    have hw := hw.2
    refine co_getr S hK hH 0 5 105 (by decide) ⟨by decide, rfl, rfl, rfl⟩ (Or.inl q266) hk_a0 (by rw [hk43]; decide) dX0_bytes_124 ?_
    refine lv_iload hx hb dX0_bytes_127 (lv_at hl 4 rfl) ?_
    refine co_callv (va_runV (As := [.int x6]) (rest := []) S (m2_put l g AD M (mP M 105 a0 0) x6 _ hk43 hw) (cwV 1 hts (lw_V q569 q570 q571 q56 q572) rfl rfl rfl (by decide +kernel) ⟨Nat.le_of_ble_eq_true rfl, Nat.le_of_ble_eq_true rfl⟩) ⟨co_blind, co_recv hK hH (c := 2) (by decide) hk43, co_pre hK hH hA hS⟩ rfl rfl hl.1 rfl (lv_room (Nat.le_of_ble_eq_true rfl)) dX0_bytes_129 ⟨Nat.le_refl _, Nat.le_refl _⟩) hS (fun M44 H locs hw hH hE46 hS => ?_)
    have hk48 := hE46.k hk_a0 (by decide)
    have hk49 := hE46.k hk_a2 (by decide)
    have hE := hE.tr hE46
    refine lv_aload_n hx hb dX0_bytes_132 rfl (lv_at hl 1 rfl) ?_
    have hk50 := hw.1
    have hw := hw.2
    refine co_getr S hK hH 0 5 105 (by decide) ⟨by decide, rfl, rfl, rfl⟩ (Or.inl q266) hk48 (by rw [hk50]; decide) dX0_bytes_133 ?_
    refine lv_iload hx hb dX0_bytes_136 (lv_at hl 7 rfl) ?_
    refine lv_if_eq (tgt := 145) hx hb dX0_bytes_138 (by decide) (fun c51 => ?_) (fun c51 => ?_)
    · have hw := hw.1 c51
      refine lv_iconst (v := 0) hx hb dX0_bytes_145 (by decide) ?_
      exact r0_bytes_146 S hr hlocks hK hA hkb _ _ _ _ _ _ _ _ _ _ _ hw hE hk48 hk49 hk50 _ _ hH hS _ (lv_sub hl [1, 2, 3, 0, 4, 5, 6, 7] rfl)
    · have hw := hw.2 c51
      refine lv_iconst (v := 1) hx hb dX0_bytes_141 (by decide) ?_
      refine lv_goto (tgt := 146) hx hb dX0_bytes_142 (by decide) ?_
      exact r0_bytes_146 S hr hlocks hK hA hkb _ _ _ _ _ _ _ _ _ _ _ hw hE hk48 hk49 hk50 _ _ hH hS _ (lv_sub hl [1, 2, 3, 0, 4, 5, 6, 7] rfl)
  · have hw := hw.1 c42
    refine lv_goto (tgt := 228) hx hb dX0_bytes_120 (by decide) ?_
    exact r0_bytes_228 S hr hlocks hK hA hkb _ _ _ _ _ _ hw hE hk_a0 hk_a2 _ _ hH hS _ (lv_sub hl [1, 2, 3, 0, 4] rfl)
def b0_bytes_35 (post : Int32 → Mm → Prop)  (kb : Mm → Nat → Nat → Int32 → Int32 → Int32 → Prop) (M : Mm) (a0 : Nat) (a2 : Nat) (x4 : Int32) (x5 : Int32) (x6 : Int32) : Prop :=
  (8 ≤ x6 → post x5 M) ∧ (¬ 8 ≤ x6 → mK M (mP M 132 a0 0) = 6 ∧ (w5_differs (fun (r21 : Int32) (M20 : Mm) => (r21 = (-1) → w0_bytes_228 post kb M20 a0 a2 x4 x5 x6) ∧ (¬ r21 = (-1) → mK M20 (mP M20 132 a0 0) = 6 ∧ (w5_differs (fun (r29 : Int32) (M28 : Mm) => w5_isRun (fun (r35 : Int32) (M34 : Mm) => (r35 = 0 → w0_bytes_112 post kb M34 a0 a2 x4 x6 r21 r29 r35 ((4 : Int32) + ((2 : Int32) * ((r29 - r21) + 1))) x5) ∧ (¬ r35 = 0 → w0_bytes_112 post kb M34 a0 a2 x4 x6 r21 r29 r35 6 x5)) M28 a2 x6 r21 r29) M20 a2 (mP M20 132 a0 0) x6 0))) M a2 (mP M 132 a0 0) x6 1))
def w0_bytes_35 (post : Int32 → Mm → Prop)  : Nat → Mm → Nat → Nat → Int32 → Int32 → Int32 → Prop
  | 0 => fun _ _ _ _ _ _ => False
  | n + 1 => b0_bytes_35 post  (w0_bytes_35 post  n)
set_option maxHeartbeats 4000000 in
set_option maxRecDepth 100000 in
theorem r0_bytes_35 {p : Program} {l : Launch} {e : Env} {s : State} {m : MethodId} {args : Array Value} {below : List Frame} {meth : Method} {c : Code} {g : CG} {AD : Nat → Prop} {M0 : Mm} (S : CallFix p m c cX0_bytes 11 s args lw_all RX0) (hr : meth.sig.returnType = (some .int)) (hlocks : meth.locks = false) (hK : KC g s) (hA : ∀ q, s.heap.size ≤ q → AD q) {post : Int32 → Mm → Prop}  : ∀ n : Nat, ∀ (M : Mm) (a0 : Nat) (a2 : Nat) (x4 : Int32) (x5 : Int32) (x6 : Int32), w0_bytes_35 post  n M a0 a2 x4 x5 x6 → Ext M0 M → mK M a0 = 1 → mK M a2 = 6 → ∀ (H : Heap) (locs : List Loc), HC g AD M H → va_S AD s.heap H locs → ∀ (ls : Array Slot), lv_has ls 11 [(0, .ref a0), (2, .ref a2), (4, .int x4), (5, .int x5), (6, .int x6)] → W p l e rm0_bytes s m args below meth c H locs 0 0 (MQ below (CQi g AD M0 post) args s 0 0 AD) (F0 m 35 ls []) := by
  have hx := S.1
  have hb := S.2.1
  have hown := S.2.2.2.1
  have hts := S.2.2.2.2
  intro n
  induction n with
  | zero =>
    intro M a0 a2 x4 x5 x6 hw
    exact hw.elim
  | succ n hkb =>
    intro M a0 a2 x4 x5 x6 hw hE hk_a0 hk_a2 H locs hH hS ls hl
    unfold w0_bytes_35 b0_bytes_35 at hw
    refine lv_iload hx hb dX0_bytes_35 (lv_at hl 4 rfl) ?_
    refine lv_bipush (v := 8) hx hb dX0_bytes_37 (by decide) ?_
    refine lv_icmp_ge (tgt := 234) hx hb dX0_bytes_39 (by decide) (fun c18 => ?_) (fun c18 => ?_)
    · have hw := hw.1 c18
      refine lv_iload hx hb dX0_bytes_234 (lv_at hl 3 rfl) ?_
      exact co_iret S hr hlocks hH hE hS hw dX0_bytes_236
    · have hw := hw.2 c18
      refine lv_aload_n hx hb dX0_bytes_42 rfl (lv_at hl 1 rfl) ?_
      refine lv_aload_n hx hb dX0_bytes_43 rfl (lv_at hl 0 rfl) ?_
      have hk19 := hw.1
      have hw := hw.2
      refine co_getr S hK hH 0 32 132 (by decide) ⟨by decide, rfl, rfl, rfl⟩ (Or.inl q293) hk_a0 (by rw [hk19]; decide) dX0_bytes_44 ?_
      refine lv_iload hx hb dX0_bytes_47 (lv_at hl 4 rfl) ?_
      refine lv_iconst (v := 1) hx hb dX0_bytes_49 (by decide) ?_
      refine co_calli (va_runV (As := [.ref (mP M 132 a0 0), .int x6, .int 1]) (rest := []) S (m5_differs l g AD M a2 (mP M 132 a0 0) x6 1 _ hk_a2 hk19 hw) (cwV 3 hts (lw_V q586 q587 q588 q59 q589) rfl rfl rfl (by decide +kernel) ⟨Nat.le_of_ble_eq_true rfl, Nat.le_of_ble_eq_true rfl⟩) ⟨co_blind, co_recv hK hH (c := 5) (by decide) hk_a2, co_pre hK hH hA hS⟩ rfl rfl hl.1 rfl (lv_room (Nat.le_of_ble_eq_true rfl)) dX0_bytes_50 ⟨Nat.le_refl _, Nat.le_refl _⟩) hS (fun r21 M20 H locs hw hH hE22 hS => ?_)
      have hk24 := hE22.k hk_a0 (by decide)
      have hk25 := hE22.k hk_a2 (by decide)
      have hE := hE.tr hE22
      refine lv_istore (lv' := [(7, .int r21), (0, .ref a0), (2, .ref a2), (4, .int x4), (5, .int x5), (6, .int x6)]) hx hb dX0_bytes_53 hl (by decide) rfl (fun ls hl => ?_)
      refine lv_iload hx hb dX0_bytes_55 (lv_at hl 0 rfl) ?_
      refine lv_iconst (v := (-1)) hx hb dX0_bytes_57 (by decide) ?_
      refine lv_icmp_ne (tgt := 64) hx hb dX0_bytes_58 (by decide) (fun c26 => ?_) (fun c26 => ?_)
      · have hw := hw.2 c26
        refine lv_aload_n hx hb dX0_bytes_64 rfl (lv_at hl 2 rfl) ?_
        refine lv_aload_n hx hb dX0_bytes_65 rfl (lv_at hl 1 rfl) ?_
        have hk27 := hw.1
        have hw := hw.2
        refine co_getr S hK hH 0 32 132 (by decide) ⟨by decide, rfl, rfl, rfl⟩ (Or.inl q293) hk24 (by rw [hk27]; decide) dX0_bytes_66 ?_
        refine lv_iload hx hb dX0_bytes_69 (lv_at hl 5 rfl) ?_
        refine lv_iconst (v := 0) hx hb dX0_bytes_71 (by decide) ?_
        refine co_calli (va_runV (As := [.ref (mP M20 132 a0 0), .int x6, .int 0]) (rest := []) S (m5_differs l g AD M20 a2 (mP M20 132 a0 0) x6 0 _ hk25 hk27 hw) (cwV 3 hts (lw_V q586 q587 q588 q59 q589) rfl rfl rfl (by decide +kernel) ⟨Nat.le_of_ble_eq_true rfl, Nat.le_of_ble_eq_true rfl⟩) ⟨co_blind, co_recv hK hH (c := 5) (by decide) hk25, co_pre hK hH hA hS⟩ rfl rfl hl.1 rfl (lv_room (Nat.le_of_ble_eq_true rfl)) dX0_bytes_72 ⟨Nat.le_refl _, Nat.le_refl _⟩) hS (fun r29 M28 H locs hw hH hE30 hS => ?_)
        have hk32 := hE30.k hk24 (by decide)
        have hk33 := hE30.k hk25 (by decide)
        have hE := hE.tr hE30
        refine lv_istore (lv' := [(8, .int r29), (7, .int r21), (0, .ref a0), (2, .ref a2), (4, .int x4), (5, .int x5), (6, .int x6)]) hx hb dX0_bytes_75 hl (by decide) rfl (fun ls hl => ?_)
        refine lv_aload_n hx hb dX0_bytes_77 rfl (lv_at hl 3 rfl) ?_
        refine lv_iload hx hb dX0_bytes_78 (lv_at hl 6 rfl) ?_
        refine lv_iload hx hb dX0_bytes_80 (lv_at hl 1 rfl) ?_
        refine lv_iload hx hb dX0_bytes_82 (lv_at hl 0 rfl) ?_
        refine co_calli (va_runV (As := [.int x6, .int r21, .int r29]) (rest := []) S (m5_isRun l g AD M28 a2 x6 r21 r29 _ hk33 hw) (cwV 3 hts (lw_V q590 q591 q592 q59 q593) rfl rfl rfl (by decide +kernel) ⟨Nat.le_of_ble_eq_true rfl, Nat.le_of_ble_eq_true rfl⟩) ⟨co_blind, co_recv hK hH (c := 5) (by decide) hk33, co_pre hK hH hA hS⟩ rfl rfl hl.1 rfl (lv_room (Nat.le_of_ble_eq_true rfl)) dX0_bytes_84 ⟨Nat.le_refl _, Nat.le_refl _⟩) hS (fun r35 M34 H locs hw hH hE36 hS => ?_)
        have hk38 := hE36.k hk32 (by decide)
        have hk39 := hE36.k hk33 (by decide)
        have hE := hE.tr hE36
        refine lv_istore (lv' := [(9, .int r35), (8, .int r29), (7, .int r21), (0, .ref a0), (2, .ref a2), (4, .int x4), (5, .int x5), (6, .int x6)]) hx hb dX0_bytes_87 hl (by decide) rfl (fun ls hl => ?_)
        refine lv_iload hx hb dX0_bytes_89 (lv_at hl 6 rfl) ?_
        refine lv_iload hx hb dX0_bytes_91 (lv_at hl 0 rfl) ?_
        refine lv_if_eq (tgt := 101) hx hb dX0_bytes_93 (by decide) (fun c40 => ?_) (fun c40 => ?_)
        · have hw := hw.1 c40
          refine lv_iconst (v := 4) hx hb dX0_bytes_101 (by decide) ?_
          refine lv_iconst (v := 2) hx hb dX0_bytes_102 (by decide) ?_
          refine lv_iload hx hb dX0_bytes_103 (lv_at hl 1 rfl) ?_
          refine lv_iload hx hb dX0_bytes_105 (lv_at hl 2 rfl) ?_
          refine lv_isub hx hb dX0_bytes_107 ?_
          refine lv_iconst (v := 1) hx hb dX0_bytes_108 (by decide) ?_
          refine lv_iadd hx hb dX0_bytes_109 ?_
          refine lv_imul hx hb dX0_bytes_110 ?_
          refine lv_iadd hx hb dX0_bytes_111 ?_
          exact r0_bytes_112 S hr hlocks hK hA hkb _ _ _ _ _ _ _ _ _ _ hw hE hk38 hk39 _ _ hH hS _ (lv_sub hl [3, 4, 5, 7, 2, 1, 0] rfl)
        · have hw := hw.2 c40
          refine lv_bipush (v := 6) hx hb dX0_bytes_96 (by decide) ?_
          refine lv_goto (tgt := 112) hx hb dX0_bytes_98 (by decide) ?_
          exact r0_bytes_112 S hr hlocks hK hA hkb _ _ _ _ _ _ _ _ _ _ hw hE hk38 hk39 _ _ hH hS _ (lv_sub hl [3, 4, 5, 7, 2, 1, 0] rfl)
      · have hw := hw.1 c26
        refine lv_goto (tgt := 228) hx hb dX0_bytes_61 (by decide) ?_
        exact r0_bytes_228 S hr hlocks hK hA hkb _ _ _ _ _ _ hw hE hk24 hk25 _ _ hH hS _ (lv_sub hl [1, 2, 3, 4, 5] rfl)
def w0_bytes_32 (post : Int32 → Mm → Prop)  (M : Mm) (a0 : Nat) (a2 : Nat) (x4 : Int32) (x5 : Int32) : Prop :=
  ∃ n, w0_bytes_35 post  n M a0 a2 x4 x5 0
set_option maxHeartbeats 4000000 in
set_option maxRecDepth 100000 in
theorem r0_bytes_32 {p : Program} {l : Launch} {e : Env} {s : State} {m : MethodId} {args : Array Value} {below : List Frame} {meth : Method} {c : Code} {g : CG} {AD : Nat → Prop} {M0 : Mm} (S : CallFix p m c cX0_bytes 11 s args lw_all RX0) (hr : meth.sig.returnType = (some .int)) (hlocks : meth.locks = false) (hK : KC g s) (hA : ∀ q, s.heap.size ≤ q → AD q) {post : Int32 → Mm → Prop}  : ∀ (M : Mm) (a0 : Nat) (a2 : Nat) (x4 : Int32) (x5 : Int32), w0_bytes_32 post  M a0 a2 x4 x5 → Ext M0 M → mK M a0 = 1 → mK M a2 = 6 → ∀ (H : Heap) (locs : List Loc), HC g AD M H → va_S AD s.heap H locs → ∀ (ls : Array Slot), lv_has ls 11 [(0, .ref a0), (2, .ref a2), (4, .int x4), (5, .int x5)] → W p l e rm0_bytes s m args below meth c H locs 0 0 (MQ below (CQi g AD M0 post) args s 0 0 AD) (F0 m 32 ls []) := by
  have hx := S.1
  have hb := S.2.1
  have hown := S.2.2.2.1
  have hts := S.2.2.2.2
  intro M a0 a2 x4 x5 hw hE hk_a0 hk_a2 H locs hH hS ls hl
  unfold w0_bytes_32 at hw
  refine lv_iconst (v := 0) hx hb dX0_bytes_32 (by decide) ?_
  refine lv_istore (lv' := [(6, .int 0), (0, .ref a0), (2, .ref a2), (4, .int x4), (5, .int x5)]) hx hb dX0_bytes_33 hl (by decide) rfl (fun ls hl => ?_)
  obtain ⟨n, hw⟩ := hw
  refine r0_bytes_35 S hr hlocks hK hA  n _ _ _ _ _ _ hw hE hk_a0 hk_a2 _ _ hH hS _ (lv_sub hl [1, 2, 3, 4, 0] rfl)
def w0_bytes (post : Int32 → Mm → Prop) (M : Mm) (a0 : Nat) (a1 : Nat) (a2 : Nat) (x3 : Int32) (x4 : Int32) : Prop :=
  mK M (mP M 132 a0 0) = 6 ∧ (w5_copies (fun (M2 : Mm) => mK M2 (mP M2 132 a0 0) = 6 ∧ (w5_scroll (fun (M10 : Mm) => (x4 = 0 → w0_bytes_32 post M10 a0 a2 x4 1) ∧ (¬ x4 = 0 → mK M10 (mP M10 105 a0 0) = 3 ∧ (w2_put (fun (M103 : Mm) => w0_bytes_32 post M103 a0 a2 x4 1) M10 (mP M10 105 a0 0) x3))) M2 (mP M2 132 a0 0) x3)) M (mP M 132 a0 0) a1)
set_option maxHeartbeats 4000000 in
set_option maxRecDepth 100000 in
theorem m0_bytes (l : Launch) (g : CG) (AD : Nat → Prop) (M : Mm) (a0 : Nat) (a1 : Nat) (a2 : Nat) (x3 : Int32) (x4 : Int32) (post : Int32 → Mm → Prop) (hk_a0 : mK M a0 = 1) (hk_a1 : mK M a1 = 6) (hk_a2 : mK M a2 = 6) (hw : w0_bytes post M a0 a1 a2 x3 x4) : Met l yX0_bytes (ws_ yX0_bytes cX0_bytes 11 (some .int)) rm0_bytes (CPc g AD M [.ref a0, .ref a1, .ref a2, .int x3, .int x4]) (CQi g AD M post) 0 0 AD := by
  refine Met.ofW (cc := cX0_bytes) (maxL := 11) (ret := (some .int)) (by decide) rfl ?_
  intro p e s m args below meth c s₁ B hml hv
  obtain ⟨rfl, hK, hH, hA⟩ := hv
  have hx := B.exec
  have hb := B.bytes
  have hr : meth.sig.returnType = (some .int) := B.returns
  have hts := atoms_spec (ws := ws_ yX0_bytes cX0_bytes 11 (some .int)) B.pre
  have hts : ∀ w ∈ lw_all, w.before _ s = true := fun w h => hts w (List.mem_cons_of_mem _ h)
  have hown : s.vm.findClass RX0 = some m.cls := findClass_of_methodNamed B.named
  have hlocks : meth.locks = false := B.notSynchronized
  have S : CallFix p m c cX0_bytes 11 s _ lw_all RX0 := ⟨hx, hb, hml, hown, hts⟩
  have hS : va_S AD s.heap s.heap [] := va_S.rf
  have hE : Ext M M := Ext.rf
  have hl := lv_entry ([.ref a0, .ref a1, .ref a2, .int x3, .int x4]) (n := 11) (Nat.le_of_ble_eq_true rfl)
  rw [lg_entry_eq]
  generalize (lg_sl ([.ref a0, .ref a1, .ref a2, .int x3, .int x4]) ++ List.replicate (11 - (lg_sl ([.ref a0, .ref a1, .ref a2, .int x3, .int x4])).length) Slot.unset).toArray = ls at hl ⊢
  have hl : lv_has ls 11 [(0, .ref a0), (1, .ref a1), (2, .ref a2), (3, .int x3), (4, .int x4)] := hl
  unfold w0_bytes at hw
  refine lv_aload_n hx hb dX0_bytes_0 rfl (lv_at hl 0 rfl) ?_
  have hk1 := hw.1
  have hw := hw.2
  refine co_getr S hK hH 0 32 132 (by decide) ⟨by decide, rfl, rfl, rfl⟩ (Or.inl q293) hk_a0 (by rw [hk1]; decide) dX0_bytes_1 ?_
  refine lv_aload_n hx hb dX0_bytes_4 rfl (lv_at hl 1 rfl) ?_
  refine co_callv (va_runV (As := [.ref a1]) (rest := []) S (m5_copies l g AD M (mP M 132 a0 0) a1 _ hk1 hk_a1 hw) (cwV 1 hts (lw_V q246 q247 q248 q59 q249) rfl rfl rfl (by decide +kernel) ⟨Nat.le_of_ble_eq_true rfl, Nat.le_of_ble_eq_true rfl⟩) ⟨co_blind, co_recv hK hH (c := 5) (by decide) hk1, co_pre hK hH hA hS⟩ rfl rfl hl.1 rfl (lv_room (Nat.le_of_ble_eq_true rfl)) dX0_bytes_5 ⟨Nat.le_refl _, Nat.le_refl _⟩) hS (fun M2 H locs hw hH hE4 hS => ?_)
  have hk6 := hE4.k hk_a0 (by decide)
  have hk7 := hE4.k hk_a1 (by decide)
  have hk8 := hE4.k hk_a2 (by decide)
  have hE := hE.tr hE4
  refine lv_aload_n hx hb dX0_bytes_8 rfl (lv_at hl 0 rfl) ?_
  have hk9 := hw.1
  have hw := hw.2
  refine co_getr S hK hH 0 32 132 (by decide) ⟨by decide, rfl, rfl, rfl⟩ (Or.inl q293) hk6 (by rw [hk9]; decide) dX0_bytes_9 ?_
  refine lv_iload_n hx hb dX0_bytes_12 rfl (lv_at hl 3 rfl) ?_
  refine co_callv (va_runV (As := [.int x3]) (rest := []) S (m5_scroll l g AD M2 (mP M2 132 a0 0) x3 _ hk9 hw) (cwV 1 hts (lw_V q509 q412 q413 q59 q414) rfl rfl rfl (by decide +kernel) ⟨Nat.le_of_ble_eq_true rfl, Nat.le_of_ble_eq_true rfl⟩) ⟨co_blind, co_recv hK hH (c := 5) (by decide) hk9, co_pre hK hH hA hS⟩ rfl rfl hl.1 rfl (lv_room (Nat.le_of_ble_eq_true rfl)) dX0_bytes_13 ⟨Nat.le_refl _, Nat.le_refl _⟩) hS (fun M10 H locs hw hH hE12 hS => ?_)
  have hk14 := hE12.k hk6 (by decide)
  have hk15 := hE12.k hk7 (by decide)
  have hk16 := hE12.k hk8 (by decide)
  have hE := hE.tr hE12
  refine lv_iconst (v := 1) hx hb dX0_bytes_16 (by decide) ?_
  refine lv_istore (lv' := [(5, .int 1), (0, .ref a0), (1, .ref a1), (2, .ref a2), (3, .int x3), (4, .int x4)]) hx hb dX0_bytes_17 hl (by decide) rfl (fun ls hl => ?_)
  refine lv_iload hx hb dX0_bytes_19 (lv_at hl 5 rfl) ?_
  refine lv_if_eq (tgt := 32) hx hb dX0_bytes_21 (by decide) (fun c17 => ?_) (fun c17 => ?_)
  · have hw := hw.1 c17
    exact r0_bytes_32 S hr hlocks hK hA  _ _ _ _ _ hw hE hk14 hk16 _ _ hH hS _ (lv_sub hl [1, 3, 5, 0] rfl)
  · have hw := hw.2 c17
    refine lv_aload_n hx hb dX0_bytes_24 rfl (lv_at hl 1 rfl) ?_
    have hk102 := hw.1
    have hw := hw.2
    refine co_getr S hK hH 0 5 105 (by decide) ⟨by decide, rfl, rfl, rfl⟩ (Or.inl q266) hk14 (by rw [hk102]; decide) dX0_bytes_25 ?_
    refine lv_iload_n hx hb dX0_bytes_28 rfl (lv_at hl 4 rfl) ?_
    refine co_callv (va_runV (As := [.int x3]) (rest := []) S (m2_put l g AD M10 (mP M10 105 a0 0) x3 _ hk102 hw) (cwV 1 hts (lw_V q569 q570 q571 q56 q572) rfl rfl rfl (by decide +kernel) ⟨Nat.le_of_ble_eq_true rfl, Nat.le_of_ble_eq_true rfl⟩) ⟨co_blind, co_recv hK hH (c := 2) (by decide) hk102, co_pre hK hH hA hS⟩ rfl rfl hl.1 rfl (lv_room (Nat.le_of_ble_eq_true rfl)) dX0_bytes_29 ⟨Nat.le_refl _, Nat.le_refl _⟩) hS (fun M103 H locs hw hH hE105 hS => ?_)
    have hk107 := hE105.k hk14 (by decide)
    have hk108 := hE105.k hk15 (by decide)
    have hk109 := hE105.k hk16 (by decide)
    have hE := hE.tr hE105
    exact r0_bytes_32 S hr hlocks hK hA  _ _ _ _ _ hw hE hk107 hk109 _ _ hH hS _ (lv_sub hl [1, 3, 5, 0] rfl)
/-! FarTypewriter.takesFar()Z -/
abbrev rm0_takesFar : Room := { frames := 7, cells := 0, slots := 0, locals := 313 }
def w0_takesFar_108 (post : Int32 → Mm → Prop) (kb : Mm → Nat → Int32 → Int32 → Int32 → Int32 → Prop) (M : Mm) (a0 : Nat) (x1 : Int32) (x2 : Int32) (x3 : Int32) (x4 : Int32) : Prop :=
  ∀ M38 : Mm, M38 = sI M 118 a0 0 ((mI M 118 a0 0) + 1) → (kb M38 a0 x1 x2 x3 (x4 + 1))
set_option maxHeartbeats 4000000 in
set_option maxRecDepth 100000 in
theorem r0_takesFar_108 {p : Program} {l : Launch} {e : Env} {s : State} {m : MethodId} {args : Array Value} {below : List Frame} {meth : Method} {c : Code} {g : CG} {AD : Nat → Prop} {M0 : Mm} (S : CallFix p m c cX0_takesFar 5 s args lw_all RX0) (hr : meth.sig.returnType = (some .boolean)) (hlocks : meth.locks = false) (hK : KC g s) (hA : ∀ q, s.heap.size ≤ q → AD q) {post : Int32 → Mm → Prop} {kb : Mm → Nat → Int32 → Int32 → Int32 → Int32 → Prop} (hkb : ∀ (M : Mm) (a0 : Nat) (x1 : Int32) (x2 : Int32) (x3 : Int32) (x4 : Int32), kb M a0 x1 x2 x3 x4 → Ext M0 M → mK M a0 = 1 → ∀ (H : Heap) (locs : List Loc), HC g AD M H → va_S AD s.heap H locs → ∀ (ls : Array Slot), lv_has ls 5 [(0, .ref a0), (1, .int x1), (2, .int x2), (3, .int x3), (4, .int x4)] → W p l e rm0_takesFar s m args below meth c H locs 0 0 (MQ below (CQi g AD M0 post) args s 0 0 AD) (F0 m 54 ls [])) : ∀ (M : Mm) (a0 : Nat) (x1 : Int32) (x2 : Int32) (x3 : Int32) (x4 : Int32), w0_takesFar_108 post kb M a0 x1 x2 x3 x4 → Ext M0 M → mK M a0 = 1 → ∀ (H : Heap) (locs : List Loc), HC g AD M H → va_S AD s.heap H locs → ∀ (ls : Array Slot), lv_has ls 5 [(0, .ref a0), (1, .int x1), (2, .int x2), (3, .int x3), (4, .int x4)] → W p l e rm0_takesFar s m args below meth c H locs 0 0 (MQ below (CQi g AD M0 post) args s 0 0 AD) (F0 m 108 ls []) := by
  have hx := S.1
  have hb := S.2.1
  have hown := S.2.2.2.1
  have hts := S.2.2.2.2
  intro M a0 x1 x2 x3 x4 hw hE hk_a0 H locs hH hS ls hl
  unfold w0_takesFar_108 at hw
  refine lv_aload_n hx hb dX0_takesFar_108 rfl (lv_at hl 0 rfl) ?_
  refine lv_dup hx hb dX0_takesFar_109 rfl ?_
  refine co_geti S hK hH 0 18 118 (by decide) ⟨by decide, rfl, rfl, rfl⟩ (Or.inl q279) hk_a0 dX0_takesFar_110 ?_
  refine lv_iconst (v := 1) hx hb dX0_takesFar_113 (by decide) ?_
  refine lv_iadd hx hb dX0_takesFar_114 ?_
  refine co_puti S hK hH hS 0 18 118 (by decide) ⟨by decide, rfl, rfl, rfl, rfl⟩ (Or.inl q279) hk_a0 ⟨rfl, rfl⟩ dX0_takesFar_115 (fun H locs hH hS => ?_)
  obtain ⟨M38, eM38⟩ : ∃ y : Mm, y = sI M 118 a0 0 ((mI M 118 a0 0) + 1) := ⟨_, rfl⟩
  have hw := hw M38 eM38
  rw [← eM38] at hH
  have hE39 : Ext M M38 := by rw [eM38]; exact Ext.sI
  have hk40 := hE39.k hk_a0 (by decide)
  have hE := hE.tr hE39
  refine lv_iinc (v := x4 + 1) (lv' := [(4, .int (x4 + 1)), (0, .ref a0), (1, .int x1), (2, .int x2), (3, .int x3)]) hx hb dX0_takesFar_118 hl (k := 4) rfl rfl (by decide) rfl (fun ls hl => ?_)
  refine lv_goto (tgt := 54) hx hb dX0_takesFar_121 (by decide) ?_
  exact hkb _ _ _ _ _ _ hw hE hk40 _ _ hH hS _ (lv_sub hl [1, 2, 3, 4, 0] rfl)
def b0_takesFar_54 (post : Int32 → Mm → Prop) (k124 : Mm → Nat → Int32 → Int32 → Int32 → Prop) (kb : Mm → Nat → Int32 → Int32 → Int32 → Int32 → Prop) (M : Mm) (a0 : Nat) (x1 : Int32) (x2 : Int32) (x3 : Int32) (x4 : Int32) : Prop :=
  (x2 ≤ x4 → k124 M a0 x1 x2 x3) ∧ (¬ x2 ≤ x4 → mK M (mP M 105 a0 0) = 3 ∧ ((((mI M 301 (mP M 105 a0 0) 0) - 2) ≤ (((8 : Int32) + x4) - x1) → k124 M a0 x1 x2 x3) ∧ (¬ ((mI M 301 (mP M 105 a0 0) 0) - 2) ≤ (((8 : Int32) + x4) - x1) → isPrg (mK M (mP M 115 a0 0)) ∧ (mK M (mP M 105 a0 0) = 3 ∧ (w2_at (fun (r27 : Int32) (M26 : Mm) => mK M26 (mP M26 126 a0 0) = 6 ∧ ((mK M26 (mP M 115 a0 0) = 8 → w7_takes (fun (M33 : Mm) => w0_takesFar_108 post kb M33 a0 x1 x2 x3 x4) M26 (mP M 115 a0 0) r27 (mP M26 126 a0 0) (mI M26 117 a0 0)) ∧ (mK M26 (mP M 115 a0 0) = 11 → w10_takes (fun (M41 : Mm) => w0_takesFar_108 post kb M41 a0 x1 x2 x3 x4) M26 (mP M 115 a0 0) r27 (mP M26 126 a0 0) (mI M26 117 a0 0)) ∧ (mK M26 (mP M 115 a0 0) = 12 → w11_takes (fun (M46 : Mm) => w0_takesFar_108 post kb M46 a0 x1 x2 x3 x4) M26 (mP M 115 a0 0) r27 (mP M26 126 a0 0) (mI M26 117 a0 0)) ∧ (mK M26 (mP M 115 a0 0) = 13 → w12_takes (fun (M51 : Mm) => w0_takesFar_108 post kb M51 a0 x1 x2 x3 x4) M26 (mP M 115 a0 0) r27 (mP M26 126 a0 0) (mI M26 117 a0 0)))) M (mP M 105 a0 0) (((8 : Int32) + x4) - x1))))))
def w0_takesFar_54 (post : Int32 → Mm → Prop) (k124 : Mm → Nat → Int32 → Int32 → Int32 → Prop) : Nat → Mm → Nat → Int32 → Int32 → Int32 → Int32 → Prop
  | 0 => fun _ _ _ _ _ _ => False
  | n + 1 => b0_takesFar_54 post k124 (w0_takesFar_54 post k124 n)
set_option maxHeartbeats 4000000 in
set_option maxRecDepth 100000 in
theorem r0_takesFar_54 {p : Program} {l : Launch} {e : Env} {s : State} {m : MethodId} {args : Array Value} {below : List Frame} {meth : Method} {c : Code} {g : CG} {AD : Nat → Prop} {M0 : Mm} (S : CallFix p m c cX0_takesFar 5 s args lw_all RX0) (hr : meth.sig.returnType = (some .boolean)) (hlocks : meth.locks = false) (hK : KC g s) (hA : ∀ q, s.heap.size ≤ q → AD q) {post : Int32 → Mm → Prop} {k124 : Mm → Nat → Int32 → Int32 → Int32 → Prop} (hk124 : ∀ (M : Mm) (a0 : Nat) (x1 : Int32) (x2 : Int32) (x3 : Int32), k124 M a0 x1 x2 x3 → Ext M0 M → mK M a0 = 1 → ∀ (H : Heap) (locs : List Loc), HC g AD M H → va_S AD s.heap H locs → ∀ (ls : Array Slot), lv_has ls 5 [(0, .ref a0), (1, .int x1), (2, .int x2), (3, .int x3)] → W p l e rm0_takesFar s m args below meth c H locs 0 0 (MQ below (CQi g AD M0 post) args s 0 0 AD) (F0 m 124 ls [])) : ∀ n : Nat, ∀ (M : Mm) (a0 : Nat) (x1 : Int32) (x2 : Int32) (x3 : Int32) (x4 : Int32), w0_takesFar_54 post k124 n M a0 x1 x2 x3 x4 → Ext M0 M → mK M a0 = 1 → ∀ (H : Heap) (locs : List Loc), HC g AD M H → va_S AD s.heap H locs → ∀ (ls : Array Slot), lv_has ls 5 [(0, .ref a0), (1, .int x1), (2, .int x2), (3, .int x3), (4, .int x4)] → W p l e rm0_takesFar s m args below meth c H locs 0 0 (MQ below (CQi g AD M0 post) args s 0 0 AD) (F0 m 54 ls []) := by
  have hx := S.1
  have hb := S.2.1
  have hown := S.2.2.2.1
  have hts := S.2.2.2.2
  intro n
  induction n with
  | zero =>
    intro M a0 x1 x2 x3 x4 hw
    exact hw.elim
  | succ n hkb =>
    intro M a0 x1 x2 x3 x4 hw hE hk_a0 H locs hH hS ls hl
    unfold w0_takesFar_54 b0_takesFar_54 at hw
    refine lv_iload hx hb dX0_takesFar_54 (lv_at hl 4 rfl) ?_
    refine lv_iload_n hx hb dX0_takesFar_56 rfl (lv_at hl 2 rfl) ?_
    refine lv_icmp_ge (tgt := 124) hx hb dX0_takesFar_57 (by decide) (fun c21 => ?_) (fun c21 => ?_)
    · have hw := hw.1 c21
      exact hk124 _ _ _ _ _ hw hE hk_a0 _ _ hH hS _ (lv_sub hl [0, 1, 2, 3] rfl)
    · have hw := hw.2 c21
      refine lv_bipush (v := 8) hx hb dX0_takesFar_60 (by decide) ?_
      refine lv_iload hx hb dX0_takesFar_62 (lv_at hl 4 rfl) ?_
      refine lv_iadd hx hb dX0_takesFar_64 ?_
      refine lv_iload_n hx hb dX0_takesFar_65 rfl (lv_at hl 1 rfl) ?_
      refine lv_isub hx hb dX0_takesFar_66 ?_
      refine lv_aload_n hx hb dX0_takesFar_67 rfl (lv_at hl 0 rfl) ?_
      have hk22 := hw.1
      have hw := hw.2
      refine co_getr S hK hH 0 5 105 (by decide) ⟨by decide, rfl, rfl, rfl⟩ (Or.inl q266) hk_a0 (by rw [hk22]; decide) dX0_takesFar_68 ?_
      refine co_geti S hK hH 2 1 301 (by decide) ⟨by decide, rfl, rfl, rfl⟩ (Or.inr ⟨_, q100⟩) hk22 dX0_takesFar_71 ?_
      refine lv_iconst (v := 2) hx hb dX0_takesFar_74 (by decide) ?_
      refine lv_isub hx hb dX0_takesFar_75 ?_
      refine lv_icmp_ge (tgt := 124) hx hb dX0_takesFar_76 (by decide) (fun c23 => ?_) (fun c23 => ?_)
      · have hw := hw.1 c23
        exact hk124 _ _ _ _ _ hw hE hk_a0 _ _ hH hS _ (lv_sub hl [0, 1, 2, 3] rfl)
      · have hw := hw.2 c23
        refine lv_aload_n hx hb dX0_takesFar_79 rfl (lv_at hl 0 rfl) ?_
        have hk24 := hw.1
        have hw := hw.2
        refine co_getr S hK hH 0 15 115 (by decide) ⟨by decide, rfl, rfl, rfl⟩ (Or.inl q276) hk_a0 hk24.ne dX0_takesFar_80 ?_
        refine lv_aload_n hx hb dX0_takesFar_83 rfl (lv_at hl 0 rfl) ?_
        have hk25 := hw.1
        have hw := hw.2
        refine co_getr S hK hH 0 5 105 (by decide) ⟨by decide, rfl, rfl, rfl⟩ (Or.inl q266) hk_a0 (by rw [hk25]; decide) dX0_takesFar_84 ?_
        refine lv_bipush (v := 8) hx hb dX0_takesFar_87 (by decide) ?_
        refine lv_iload hx hb dX0_takesFar_89 (lv_at hl 4 rfl) ?_
        refine lv_iadd hx hb dX0_takesFar_91 ?_
        refine lv_iload_n hx hb dX0_takesFar_92 rfl (lv_at hl 1 rfl) ?_
        refine lv_isub hx hb dX0_takesFar_93 ?_
        refine co_calli (va_runV (As := [.int (((8 : Int32) + x4) - x1)]) (rest := [.ref (mP M 115 a0 0)]) S (m2_at l g AD M (mP M 105 a0 0) (((8 : Int32) + x4) - x1) _ hk25 hw) (cwV 1 hts (lw_V q644 q603 q604 q56 q605) rfl rfl rfl (by decide +kernel) ⟨Nat.le_of_ble_eq_true rfl, Nat.le_of_ble_eq_true rfl⟩) ⟨co_blind, co_recv hK hH (c := 2) (by decide) hk25, co_pre hK hH hA hS⟩ rfl rfl hl.1 rfl (lv_room (Nat.le_of_ble_eq_true rfl)) dX0_takesFar_94 ⟨Nat.le_refl _, Nat.le_refl _⟩) hS (fun r27 M26 H locs hw hH hE28 hS => ?_)
        have hk30 := hE28.k hk_a0 (by decide)
        have hk31 := hE28.p hk24
        have hE := hE.tr hE28
        refine lv_aload_n hx hb dX0_takesFar_97 rfl (lv_at hl 0 rfl) ?_
        have hk32 := hw.1
        have hw := hw.2
        refine co_getr S hK hH 0 26 126 (by decide) ⟨by decide, rfl, rfl, rfl⟩ (Or.inl q287) hk30 (by rw [hk32]; decide) dX0_takesFar_98 ?_
        refine lv_aload_n hx hb dX0_takesFar_101 rfl (lv_at hl 0 rfl) ?_
        refine co_geti S hK hH 0 17 117 (by decide) ⟨by decide, rfl, rfl, rfl⟩ (Or.inl q278) hk30 dX0_takesFar_102 ?_
        rcases hk31 with hq | hq | hq | hq
        · have hw := hw.1 hq
          refine co_callv (va_runU (As := [.int r27, .ref (mP M26 126 a0 0), .int (mI M26 117 a0 0)]) (rest := []) S (m7_takes l g AD M26 (mP M 115 a0 0) r27 (mP M26 126 a0 0) (mI M26 117 a0 0) _ hk32 hw) (va_cwA (owner := "FarTypewriter$Program") (x := ⟨"FarTypewriter$Program", "takes", "(ILFarTypewriter$Screen;I)V"⟩) 3 hts (lw_U q645 q647 q648 q649 q61 q650) rfl rfl rfl (hK.2.2.2.1 _ q646 rfl) (by decide +kernel) ⟨Nat.le_of_ble_eq_true rfl, Nat.le_of_ble_eq_true rfl⟩) ⟨co_blind, co_recv hK hH (c := 7) (by decide) hq, co_pre hK hH hA hS⟩ rfl rfl hl.1 rfl (lv_room (Nat.le_of_ble_eq_true rfl)) dX0_takesFar_105 ⟨Nat.le_refl _, Nat.le_refl _⟩) hS (fun M33 H locs hw hH hE35 hS => ?_)
          have hk37 := hE35.k hk30 (by decide)
          have hE := hE.tr hE35
          exact r0_takesFar_108 S hr hlocks hK hA hkb _ _ _ _ _ _ hw hE hk37 _ _ hH hS _ (lv_sub hl [0, 1, 2, 3, 4] rfl)
        · have hw := hw.2.1 hq
          refine co_callv (va_runU (As := [.int r27, .ref (mP M26 126 a0 0), .int (mI M26 117 a0 0)]) (rest := []) S (m10_takes l g AD M26 (mP M 115 a0 0) r27 (mP M26 126 a0 0) (mI M26 117 a0 0) _ hq hk32 hw) (va_cwA (owner := "FarTypewriter$Program") (x := ⟨"FarTypewriter$Program", "takes", "(ILFarTypewriter$Screen;I)V"⟩) 3 hts (lw_U q645 q647 q659 q660 q65 q661) rfl rfl rfl (hK.2.2.2.1 _ q646 rfl) (by decide +kernel) ⟨Nat.le_of_ble_eq_true rfl, Nat.le_of_ble_eq_true rfl⟩) ⟨co_blind, co_recv hK hH (c := 10) (by decide) hq, co_pre hK hH hA hS⟩ rfl rfl hl.1 rfl (lv_room (Nat.le_of_ble_eq_true rfl)) dX0_takesFar_105 ⟨Nat.le_refl _, Nat.le_refl _⟩) hS (fun M41 H locs hw hH hE43 hS => ?_)
          have hk45 := hE43.k hk30 (by decide)
          have hE := hE.tr hE43
          exact r0_takesFar_108 S hr hlocks hK hA hkb _ _ _ _ _ _ hw hE hk45 _ _ hH hS _ (lv_sub hl [0, 1, 2, 3, 4] rfl)
        · have hw := hw.2.2.1 hq
          refine co_callv (va_runU (As := [.int r27, .ref (mP M26 126 a0 0), .int (mI M26 117 a0 0)]) (rest := []) S (m11_takes l g AD M26 (mP M 115 a0 0) r27 (mP M26 126 a0 0) (mI M26 117 a0 0) _ hq hk32 hw) (va_cwA (owner := "FarTypewriter$Program") (x := ⟨"FarTypewriter$Program", "takes", "(ILFarTypewriter$Screen;I)V"⟩) 3 hts (lw_U q645 q647 q670 q671 q66 q672) rfl rfl rfl (hK.2.2.2.1 _ q646 rfl) (by decide +kernel) ⟨Nat.le_of_ble_eq_true rfl, Nat.le_of_ble_eq_true rfl⟩) ⟨co_blind, co_recv hK hH (c := 11) (by decide) hq, co_pre hK hH hA hS⟩ rfl rfl hl.1 rfl (lv_room (Nat.le_of_ble_eq_true rfl)) dX0_takesFar_105 ⟨Nat.le_refl _, Nat.le_refl _⟩) hS (fun M46 H locs hw hH hE48 hS => ?_)
          have hk50 := hE48.k hk30 (by decide)
          have hE := hE.tr hE48
          exact r0_takesFar_108 S hr hlocks hK hA hkb _ _ _ _ _ _ hw hE hk50 _ _ hH hS _ (lv_sub hl [0, 1, 2, 3, 4] rfl)
        · have hw := hw.2.2.2 hq
          refine co_callv (va_runU (As := [.int r27, .ref (mP M26 126 a0 0), .int (mI M26 117 a0 0)]) (rest := []) S (m12_takes l g AD M26 (mP M 115 a0 0) r27 (mP M26 126 a0 0) (mI M26 117 a0 0) _ hq hk32 hw) (va_cwA (owner := "FarTypewriter$Program") (x := ⟨"FarTypewriter$Program", "takes", "(ILFarTypewriter$Screen;I)V"⟩) 3 hts (lw_U q645 q647 q664 q665 q67 q666) rfl rfl rfl (hK.2.2.2.1 _ q646 rfl) (by decide +kernel) ⟨Nat.le_of_ble_eq_true rfl, Nat.le_of_ble_eq_true rfl⟩) ⟨co_blind, co_recv hK hH (c := 12) (by decide) hq, co_pre hK hH hA hS⟩ rfl rfl hl.1 rfl (lv_room (Nat.le_of_ble_eq_true rfl)) dX0_takesFar_105 ⟨Nat.le_refl _, Nat.le_refl _⟩) hS (fun M51 H locs hw hH hE53 hS => ?_)
          have hk55 := hE53.k hk30 (by decide)
          have hE := hE.tr hE53
          exact r0_takesFar_108 S hr hlocks hK hA hkb _ _ _ _ _ _ hw hE hk55 _ _ hH hS _ (lv_sub hl [0, 1, 2, 3, 4] rfl)
def w0_takesFar_206 (post : Int32 → Mm → Prop)  (M : Mm) (t0 : Int32) (b1 : Nat) : Prop :=
  (t0 = 0 ∨ t0 = 1) ∧ (∀ M65 : Mm, M65 = sI M 124 b1 0 t0 → (post 1 M65))
set_option maxHeartbeats 4000000 in
set_option maxRecDepth 100000 in
theorem r0_takesFar_206 {p : Program} {l : Launch} {e : Env} {s : State} {m : MethodId} {args : Array Value} {below : List Frame} {meth : Method} {c : Code} {g : CG} {AD : Nat → Prop} {M0 : Mm} (S : CallFix p m c cX0_takesFar 5 s args lw_all RX0) (hr : meth.sig.returnType = (some .boolean)) (hlocks : meth.locks = false) (hK : KC g s) (hA : ∀ q, s.heap.size ≤ q → AD q) {post : Int32 → Mm → Prop}  : ∀ (M : Mm) (t0 : Int32) (b1 : Nat), w0_takesFar_206 post  M t0 b1 → Ext M0 M → mK M b1 = 1 → ∀ (H : Heap) (locs : List Loc), HC g AD M H → va_S AD s.heap H locs → ∀ (ls : Array Slot), lv_has ls 5 [] → W p l e rm0_takesFar s m args below meth c H locs 0 0 (MQ below (CQi g AD M0 post) args s 0 0 AD) (F0 m 206 ls [.int t0, .ref b1]) := by
  have hx := S.1
  have hb := S.2.1
  have hown := S.2.2.2.1
  have hts := S.2.2.2.2
  intro M t0 b1 hw hE hk_b1 H locs hH hS ls hl
  unfold w0_takesFar_206 at hw
  have hz64 := hw.1
  have hw := hw.2
  refine co_puti S hK hH hS 0 24 124 (by decide) ⟨by decide, rfl, rfl, rfl, rfl⟩ (Or.inl q285) hk_b1 (mo_bool hz64) dX0_takesFar_206 (fun H locs hH hS => ?_)
  obtain ⟨M65, eM65⟩ : ∃ y : Mm, y = sI M 124 b1 0 t0 := ⟨_, rfl⟩
  have hw := hw M65 eM65
  rw [← eM65] at hH
  have hE66 : Ext M M65 := by rw [eM65]; exact Ext.sI
  have hE := hE.tr hE66
  refine lv_iconst (v := 1) hx hb dX0_takesFar_209 (by decide) ?_
  exact co_zret S hr hlocks hH hE hS rfl hw dX0_takesFar_210
def w0_takesFar_201 (post : Int32 → Mm → Prop)  (M : Mm) (b0 : Nat) : Prop :=
  w0_takesFar_206 post M 1 b0
set_option maxHeartbeats 4000000 in
set_option maxRecDepth 100000 in
theorem r0_takesFar_201 {p : Program} {l : Launch} {e : Env} {s : State} {m : MethodId} {args : Array Value} {below : List Frame} {meth : Method} {c : Code} {g : CG} {AD : Nat → Prop} {M0 : Mm} (S : CallFix p m c cX0_takesFar 5 s args lw_all RX0) (hr : meth.sig.returnType = (some .boolean)) (hlocks : meth.locks = false) (hK : KC g s) (hA : ∀ q, s.heap.size ≤ q → AD q) {post : Int32 → Mm → Prop}  : ∀ (M : Mm) (b0 : Nat), w0_takesFar_201 post  M b0 → Ext M0 M → mK M b0 = 1 → ∀ (H : Heap) (locs : List Loc), HC g AD M H → va_S AD s.heap H locs → ∀ (ls : Array Slot), lv_has ls 5 [] → W p l e rm0_takesFar s m args below meth c H locs 0 0 (MQ below (CQi g AD M0 post) args s 0 0 AD) (F0 m 201 ls [.ref b0]) := by
  have hx := S.1
  have hb := S.2.1
  have hown := S.2.2.2.1
  have hts := S.2.2.2.2
  intro M b0 hw hE hk_b0 H locs hH hS ls hl
  unfold w0_takesFar_201 at hw
  refine lv_iconst (v := 1) hx hb dX0_takesFar_201 (by decide) ?_
  refine lv_goto (tgt := 206) hx hb dX0_takesFar_202 (by decide) ?_
  exact r0_takesFar_206 S hr hlocks hK hA  _ _ _ hw hE hk_b0 _ _ hH hS _ (lv_sub hl [] rfl)
def w0_takesFar_185 (post : Int32 → Mm → Prop)  (M : Mm) (a0 : Nat) (x1 : Int32) : Prop :=
  ((mI M 124 a0 0) = 0 → ((mI M 118 a0 0) ≤ x1 → w0_takesFar_206 post M 0 a0) ∧ (¬ (mI M 118 a0 0) ≤ x1 → w0_takesFar_201 post M a0)) ∧ (¬ (mI M 124 a0 0) = 0 → w0_takesFar_201 post M a0)
set_option maxHeartbeats 4000000 in
set_option maxRecDepth 100000 in
theorem r0_takesFar_185 {p : Program} {l : Launch} {e : Env} {s : State} {m : MethodId} {args : Array Value} {below : List Frame} {meth : Method} {c : Code} {g : CG} {AD : Nat → Prop} {M0 : Mm} (S : CallFix p m c cX0_takesFar 5 s args lw_all RX0) (hr : meth.sig.returnType = (some .boolean)) (hlocks : meth.locks = false) (hK : KC g s) (hA : ∀ q, s.heap.size ≤ q → AD q) {post : Int32 → Mm → Prop}  : ∀ (M : Mm) (a0 : Nat) (x1 : Int32), w0_takesFar_185 post  M a0 x1 → Ext M0 M → mK M a0 = 1 → ∀ (H : Heap) (locs : List Loc), HC g AD M H → va_S AD s.heap H locs → ∀ (ls : Array Slot), lv_has ls 5 [(0, .ref a0), (1, .int x1)] → W p l e rm0_takesFar s m args below meth c H locs 0 0 (MQ below (CQi g AD M0 post) args s 0 0 AD) (F0 m 185 ls []) := by
  have hx := S.1
  have hb := S.2.1
  have hown := S.2.2.2.1
  have hts := S.2.2.2.2
  intro M a0 x1 hw hE hk_a0 H locs hH hS ls hl
  unfold w0_takesFar_185 at hw
  refine lv_aload_n hx hb dX0_takesFar_185 rfl (lv_at hl 0 rfl) ?_
  refine lv_aload_n hx hb dX0_takesFar_186 rfl (lv_at hl 0 rfl) ?_
  refine co_geti S hK hH 0 24 124 (by decide) ⟨by decide, rfl, rfl, rfl⟩ (Or.inl q285) hk_a0 dX0_takesFar_187 ?_
  refine lv_if_ne (tgt := 201) hx hb dX0_takesFar_190 (by decide) (fun c63 => ?_) (fun c63 => ?_)
  · have hw := hw.2 c63
    exact r0_takesFar_201 S hr hlocks hK hA  _ _ hw hE hk_a0 _ _ hH hS _ (lv_sub hl [] rfl)
  · have hw := hw.1 c63
    refine lv_iload_n hx hb dX0_takesFar_193 rfl (lv_at hl 1 rfl) ?_
    refine lv_aload_n hx hb dX0_takesFar_194 rfl (lv_at hl 0 rfl) ?_
    refine co_geti S hK hH 0 18 118 (by decide) ⟨by decide, rfl, rfl, rfl⟩ (Or.inl q279) hk_a0 dX0_takesFar_195 ?_
    refine lv_icmp_ge (tgt := 205) hx hb dX0_takesFar_198 (by decide) (fun c67 => ?_) (fun c67 => ?_)
    · have hw := hw.1 c67
      refine lv_iconst (v := 0) hx hb dX0_takesFar_205 (by decide) ?_
      exact r0_takesFar_206 S hr hlocks hK hA  _ _ _ hw hE hk_a0 _ _ hH hS _ (lv_sub hl [] rfl)
    · have hw := hw.2 c67
      exact r0_takesFar_201 S hr hlocks hK hA  _ _ hw hE hk_a0 _ _ hH hS _ (lv_sub hl [] rfl)
def w0_takesFar_160 (post : Int32 → Mm → Prop)  (M : Mm) (a0 : Nat) (x1 : Int32) (x2 : Int32) : Prop :=
  (x2 < (mI M 123 a0 0) → w0_takesFar_185 post M a0 x1) ∧ (¬ x2 < (mI M 123 a0 0) → ∀ M68 : Mm, M68 = sI M 123 a0 0 x2 → (mK M68 (mP M68 105 a0 0) = 3 ∧ (w2_at (fun (r73 : Int32) (M72 : Mm) => ∀ M77 : Mm, M77 = sI M72 122 a0 0 r73 → (w0_takesFar_185 post M77 a0 x1)) M68 (mP M68 105 a0 0) 1)))
set_option maxHeartbeats 4000000 in
set_option maxRecDepth 100000 in
theorem r0_takesFar_160 {p : Program} {l : Launch} {e : Env} {s : State} {m : MethodId} {args : Array Value} {below : List Frame} {meth : Method} {c : Code} {g : CG} {AD : Nat → Prop} {M0 : Mm} (S : CallFix p m c cX0_takesFar 5 s args lw_all RX0) (hr : meth.sig.returnType = (some .boolean)) (hlocks : meth.locks = false) (hK : KC g s) (hA : ∀ q, s.heap.size ≤ q → AD q) {post : Int32 → Mm → Prop}  : ∀ (M : Mm) (a0 : Nat) (x1 : Int32) (x2 : Int32), w0_takesFar_160 post  M a0 x1 x2 → Ext M0 M → mK M a0 = 1 → ∀ (H : Heap) (locs : List Loc), HC g AD M H → va_S AD s.heap H locs → ∀ (ls : Array Slot), lv_has ls 5 [(0, .ref a0), (1, .int x1), (2, .int x2)] → W p l e rm0_takesFar s m args below meth c H locs 0 0 (MQ below (CQi g AD M0 post) args s 0 0 AD) (F0 m 160 ls []) := by
  have hx := S.1
  have hb := S.2.1
  have hown := S.2.2.2.1
  have hts := S.2.2.2.2
  intro M a0 x1 x2 hw hE hk_a0 H locs hH hS ls hl
  unfold w0_takesFar_160 at hw
  refine lv_iload_n hx hb dX0_takesFar_160 rfl (lv_at hl 2 rfl) ?_
  refine lv_aload_n hx hb dX0_takesFar_161 rfl (lv_at hl 0 rfl) ?_
  refine co_geti S hK hH 0 23 123 (by decide) ⟨by decide, rfl, rfl, rfl⟩ (Or.inl q284) hk_a0 dX0_takesFar_162 ?_
  refine lv_icmp_lt (tgt := 185) hx hb dX0_takesFar_165 (by decide) (fun c62 => ?_) (fun c62 => ?_)
  · have hw := hw.1 c62
    exact r0_takesFar_185 S hr hlocks hK hA  _ _ _ hw hE hk_a0 _ _ hH hS _ (lv_sub hl [0, 1] rfl)
  · have hw := hw.2 c62
    refine lv_aload_n hx hb dX0_takesFar_168 rfl (lv_at hl 0 rfl) ?_
    refine lv_iload_n hx hb dX0_takesFar_169 rfl (lv_at hl 2 rfl) ?_
    refine co_puti S hK hH hS 0 23 123 (by decide) ⟨by decide, rfl, rfl, rfl, rfl⟩ (Or.inl q284) hk_a0 ⟨rfl, rfl⟩ dX0_takesFar_170 (fun H locs hH hS => ?_)
    obtain ⟨M68, eM68⟩ : ∃ y : Mm, y = sI M 123 a0 0 x2 := ⟨_, rfl⟩
    have hw := hw M68 eM68
    rw [← eM68] at hH
    have hE69 : Ext M M68 := by rw [eM68]; exact Ext.sI
    have hk70 := hE69.k hk_a0 (by decide)
    have hE := hE.tr hE69
    refine lv_aload_n hx hb dX0_takesFar_173 rfl (lv_at hl 0 rfl) ?_
    refine lv_aload_n hx hb dX0_takesFar_174 rfl (lv_at hl 0 rfl) ?_
    have hk71 := hw.1
    have hw := hw.2
    refine co_getr S hK hH 0 5 105 (by decide) ⟨by decide, rfl, rfl, rfl⟩ (Or.inl q266) hk70 (by rw [hk71]; decide) dX0_takesFar_175 ?_
    refine lv_iconst (v := 1) hx hb dX0_takesFar_178 (by decide) ?_
    refine co_calli (va_runV (As := [.int 1]) (rest := [.ref a0]) S (m2_at l g AD M68 (mP M68 105 a0 0) 1 _ hk71 hw) (cwV 1 hts (lw_V q644 q603 q604 q56 q605) rfl rfl rfl (by decide +kernel) ⟨Nat.le_of_ble_eq_true rfl, Nat.le_of_ble_eq_true rfl⟩) ⟨co_blind, co_recv hK hH (c := 2) (by decide) hk71, co_pre hK hH hA hS⟩ rfl rfl hl.1 rfl (lv_room (Nat.le_of_ble_eq_true rfl)) dX0_takesFar_179 ⟨Nat.le_refl _, Nat.le_refl _⟩) hS (fun r73 M72 H locs hw hH hE74 hS => ?_)
    have hk76 := hE74.k hk70 (by decide)
    have hE := hE.tr hE74
    refine co_puti S hK hH hS 0 22 122 (by decide) ⟨by decide, rfl, rfl, rfl, rfl⟩ (Or.inl q283) hk76 ⟨rfl, rfl⟩ dX0_takesFar_182 (fun H locs hH hS => ?_)
    obtain ⟨M77, eM77⟩ : ∃ y : Mm, y = sI M72 122 a0 0 r73 := ⟨_, rfl⟩
    have hw := hw M77 eM77
    rw [← eM77] at hH
    have hE78 : Ext M72 M77 := by rw [eM77]; exact Ext.sI
    have hk79 := hE78.k hk76 (by decide)
    have hE := hE.tr hE78
    exact r0_takesFar_185 S hr hlocks hK hA  _ _ _ hw hE hk79 _ _ hH hS _ (lv_sub hl [0, 1] rfl)
def w0_takesFar_124 (post : Int32 → Mm → Prop)  (M : Mm) (a0 : Nat) (x1 : Int32) (x2 : Int32) (x3 : Int32) : Prop :=
  (x3 ≤ (mI M 119 a0 0) → w0_takesFar_160 post M a0 x1 x2) ∧ (¬ x3 ≤ (mI M 119 a0 0) → mK M (mP M 125 a0 0) = 4 ∧ (w3_find (fun (r82 : Int32) (M81 : Mm) => (r82 = (-1) → w0_takesFar_160 post M81 a0 x1 x2) ∧ (¬ r82 = (-1) → ∀ M87 : Mm, M87 = sI M81 119 a0 0 x3 → (mK M87 (mP M87 125 a0 0) = 4 ∧ (w3_givesUp (fun (M91 : Mm) => w0_takesFar_160 post M91 a0 x1 x2) M87 (mP M87 125 a0 0) (mI M87 119 a0 0))))) M (mP M 125 a0 0) x3))
set_option maxHeartbeats 4000000 in
set_option maxRecDepth 100000 in
theorem r0_takesFar_124 {p : Program} {l : Launch} {e : Env} {s : State} {m : MethodId} {args : Array Value} {below : List Frame} {meth : Method} {c : Code} {g : CG} {AD : Nat → Prop} {M0 : Mm} (S : CallFix p m c cX0_takesFar 5 s args lw_all RX0) (hr : meth.sig.returnType = (some .boolean)) (hlocks : meth.locks = false) (hK : KC g s) (hA : ∀ q, s.heap.size ≤ q → AD q) {post : Int32 → Mm → Prop}  : ∀ (M : Mm) (a0 : Nat) (x1 : Int32) (x2 : Int32) (x3 : Int32), w0_takesFar_124 post  M a0 x1 x2 x3 → Ext M0 M → mK M a0 = 1 → ∀ (H : Heap) (locs : List Loc), HC g AD M H → va_S AD s.heap H locs → ∀ (ls : Array Slot), lv_has ls 5 [(0, .ref a0), (1, .int x1), (2, .int x2), (3, .int x3)] → W p l e rm0_takesFar s m args below meth c H locs 0 0 (MQ below (CQi g AD M0 post) args s 0 0 AD) (F0 m 124 ls []) := by
  have hx := S.1
  have hb := S.2.1
  have hown := S.2.2.2.1
  have hts := S.2.2.2.2
  intro M a0 x1 x2 x3 hw hE hk_a0 H locs hH hS ls hl
  unfold w0_takesFar_124 at hw
  refine lv_iload_n hx hb dX0_takesFar_124 rfl (lv_at hl 3 rfl) ?_
  refine lv_aload_n hx hb dX0_takesFar_125 rfl (lv_at hl 0 rfl) ?_
  refine co_geti S hK hH 0 19 119 (by decide) ⟨by decide, rfl, rfl, rfl⟩ (Or.inl q280) hk_a0 dX0_takesFar_126 ?_
  refine lv_icmp_le (tgt := 160) hx hb dX0_takesFar_129 (by decide) (fun c61 => ?_) (fun c61 => ?_)
  · have hw := hw.1 c61
    exact r0_takesFar_160 S hr hlocks hK hA  _ _ _ _ hw hE hk_a0 _ _ hH hS _ (lv_sub hl [0, 1, 2] rfl)
  · have hw := hw.2 c61
    refine lv_aload_n hx hb dX0_takesFar_132 rfl (lv_at hl 0 rfl) ?_
    have hk80 := hw.1
    have hw := hw.2
    refine co_getr S hK hH 0 25 125 (by decide) ⟨by decide, rfl, rfl, rfl⟩ (Or.inl q286) hk_a0 (by rw [hk80]; decide) dX0_takesFar_133 ?_
    refine lv_iload_n hx hb dX0_takesFar_136 rfl (lv_at hl 3 rfl) ?_
    refine co_calli (va_runV (As := [.int x3]) (rest := []) S (m3_find l g AD M (mP M 125 a0 0) x3 _ hk80 hw) (cwV 1 hts (lw_V q565 q566 q567 q57 q568) rfl rfl rfl (by decide +kernel) ⟨Nat.le_of_ble_eq_true rfl, Nat.le_of_ble_eq_true rfl⟩) ⟨co_blind, co_recv hK hH (c := 3) (by decide) hk80, co_pre hK hH hA hS⟩ rfl rfl hl.1 rfl (lv_room (Nat.le_of_ble_eq_true rfl)) dX0_takesFar_137 ⟨Nat.le_refl _, Nat.le_refl _⟩) hS (fun r82 M81 H locs hw hH hE83 hS => ?_)
    have hk85 := hE83.k hk_a0 (by decide)
    have hE := hE.tr hE83
    refine lv_iconst (v := (-1)) hx hb dX0_takesFar_140 (by decide) ?_
    refine lv_icmp_eq (tgt := 160) hx hb dX0_takesFar_141 (by decide) (fun c86 => ?_) (fun c86 => ?_)
    · have hw := hw.1 c86
      exact r0_takesFar_160 S hr hlocks hK hA  _ _ _ _ hw hE hk85 _ _ hH hS _ (lv_sub hl [0, 1, 2] rfl)
    · have hw := hw.2 c86
      refine lv_aload_n hx hb dX0_takesFar_144 rfl (lv_at hl 0 rfl) ?_
      refine lv_iload_n hx hb dX0_takesFar_145 rfl (lv_at hl 3 rfl) ?_
      refine co_puti S hK hH hS 0 19 119 (by decide) ⟨by decide, rfl, rfl, rfl, rfl⟩ (Or.inl q280) hk85 ⟨rfl, rfl⟩ dX0_takesFar_146 (fun H locs hH hS => ?_)
      obtain ⟨M87, eM87⟩ : ∃ y : Mm, y = sI M81 119 a0 0 x3 := ⟨_, rfl⟩
      have hw := hw M87 eM87
      rw [← eM87] at hH
      have hE88 : Ext M81 M87 := by rw [eM87]; exact Ext.sI
      have hk89 := hE88.k hk85 (by decide)
      have hE := hE.tr hE88
      refine lv_aload_n hx hb dX0_takesFar_149 rfl (lv_at hl 0 rfl) ?_
      have hk90 := hw.1
      have hw := hw.2
      refine co_getr S hK hH 0 25 125 (by decide) ⟨by decide, rfl, rfl, rfl⟩ (Or.inl q286) hk89 (by rw [hk90]; decide) dX0_takesFar_150 ?_
      refine lv_aload_n hx hb dX0_takesFar_153 rfl (lv_at hl 0 rfl) ?_
      refine co_geti S hK hH 0 19 119 (by decide) ⟨by decide, rfl, rfl, rfl⟩ (Or.inl q280) hk89 dX0_takesFar_154 ?_
      refine co_callv (va_runV (As := [.int (mI M87 119 a0 0)]) (rest := []) S (m3_givesUp l g AD M87 (mP M87 125 a0 0) (mI M87 119 a0 0) _ hk90 hw) (cwV 1 hts (lw_V q680 q681 q682 q57 q683) rfl rfl rfl (by decide +kernel) ⟨Nat.le_of_ble_eq_true rfl, Nat.le_of_ble_eq_true rfl⟩) ⟨co_blind, co_recv hK hH (c := 3) (by decide) hk90, co_pre hK hH hA hS⟩ rfl rfl hl.1 rfl (lv_room (Nat.le_of_ble_eq_true rfl)) dX0_takesFar_157 ⟨Nat.le_refl _, Nat.le_refl _⟩) hS (fun M91 H locs hw hH hE93 hS => ?_)
      have hk95 := hE93.k hk89 (by decide)
      have hE := hE.tr hE93
      exact r0_takesFar_160 S hr hlocks hK hA  _ _ _ _ hw hE hk95 _ _ hH hS _ (lv_sub hl [0, 1, 2] rfl)
def w0_takesFar (post : Int32 → Mm → Prop) (M : Mm) (a0 : Nat) : Prop :=
  mK M (mP M 105 a0 0) = 3 ∧ (w2_twoAt (fun (r3 : Int32) (M2 : Mm) => mK M2 (mP M2 105 a0 0) = 3 ∧ (w2_twoAt (fun (r9 : Int32) (M8 : Mm) => mK M8 (mP M8 105 a0 0) = 3 ∧ (w2_twoAt (fun (r15 : Int32) (M14 : Mm) => (r3 ≤ (mI M14 118 a0 0) → ∀ y4_20 : Int32, y4_20 = mI M14 118 a0 0 → (∃ n, w0_takesFar_54 post (fun (M60 : Mm) (a0_56 : Nat) (x1_57 : Int32) (x2_58 : Int32) (x3_59 : Int32) => w0_takesFar_124 post M60 a0_56 x1_57 x2_58 x3_59) n M14 a0 r3 r9 r15 y4_20)) ∧ (¬ r3 ≤ (mI M14 118 a0 0) → mK M14 (mP M14 103 a0 0) = 24 ∧ (vp_in 4 10 ∧ (vp_in 4 10 ∧ (∀ M99 : Mm, M99 = sI M14 24 (mP M14 103 a0 0) (4 : Int32).toNatClampNeg ((mI M14 24 (mP M14 103 a0 0) (4 : Int32).toNatClampNeg) + 1) → (post 0 M99)))))) M8 (mP M8 105 a0 0) 6)) M2 (mP M2 105 a0 0) 4)) M (mP M 105 a0 0) 2)
set_option maxHeartbeats 4000000 in
set_option maxRecDepth 100000 in
theorem m0_takesFar (l : Launch) (g : CG) (AD : Nat → Prop) (M : Mm) (a0 : Nat) (post : Int32 → Mm → Prop) (hk_a0 : mK M a0 = 1) (hw : w0_takesFar post M a0) : Met l yX0_takesFar (ws_ yX0_takesFar cX0_takesFar 5 (some .boolean)) rm0_takesFar (CPc g AD M [.ref a0]) (CQi g AD M post) 0 0 AD := by
  refine Met.ofW (cc := cX0_takesFar) (maxL := 5) (ret := (some .boolean)) (by decide) rfl ?_
  intro p e s m args below meth c s₁ B hml hv
  obtain ⟨rfl, hK, hH, hA⟩ := hv
  have hx := B.exec
  have hb := B.bytes
  have hr : meth.sig.returnType = (some .boolean) := B.returns
  have hts := atoms_spec (ws := ws_ yX0_takesFar cX0_takesFar 5 (some .boolean)) B.pre
  have hts : ∀ w ∈ lw_all, w.before _ s = true := fun w h => hts w (List.mem_cons_of_mem _ h)
  have hown : s.vm.findClass RX0 = some m.cls := findClass_of_methodNamed B.named
  have hlocks : meth.locks = false := B.notSynchronized
  have S : CallFix p m c cX0_takesFar 5 s _ lw_all RX0 := ⟨hx, hb, hml, hown, hts⟩
  have hS : va_S AD s.heap s.heap [] := va_S.rf
  have hE : Ext M M := Ext.rf
  have hl := lv_entry ([.ref a0]) (n := 5) (Nat.le_of_ble_eq_true rfl)
  rw [lg_entry_eq]
  generalize (lg_sl ([.ref a0]) ++ List.replicate (5 - (lg_sl ([.ref a0])).length) Slot.unset).toArray = ls at hl ⊢
  have hl : lv_has ls 5 [(0, .ref a0)] := hl
  unfold w0_takesFar at hw
  refine lv_aload_n hx hb dX0_takesFar_0 rfl (lv_at hl 0 rfl) ?_
  have hk1 := hw.1
  have hw := hw.2
  refine co_getr S hK hH 0 5 105 (by decide) ⟨by decide, rfl, rfl, rfl⟩ (Or.inl q266) hk_a0 (by rw [hk1]; decide) dX0_takesFar_1 ?_
  refine lv_iconst (v := 2) hx hb dX0_takesFar_4 (by decide) ?_
  refine co_calli (va_runV (As := [.int 2]) (rest := []) S (m2_twoAt l g AD M (mP M 105 a0 0) 2 _ hk1 hw) (cwV 1 hts (lw_V q643 q635 q636 q56 q637) rfl rfl rfl (by decide +kernel) ⟨Nat.le_of_ble_eq_true rfl, Nat.le_of_ble_eq_true rfl⟩) ⟨co_blind, co_recv hK hH (c := 2) (by decide) hk1, co_pre hK hH hA hS⟩ rfl rfl hl.1 rfl (lv_room (Nat.le_of_ble_eq_true rfl)) dX0_takesFar_5 ⟨Nat.le_refl _, Nat.le_refl _⟩) hS (fun r3 M2 H locs hw hH hE4 hS => ?_)
  have hk6 := hE4.k hk_a0 (by decide)
  have hE := hE.tr hE4
  refine lv_istore_n (lv' := [(1, .int r3), (0, .ref a0)]) hx hb dX0_takesFar_8 rfl hl (by decide) rfl (fun ls hl => ?_)
  refine lv_aload_n hx hb dX0_takesFar_9 rfl (lv_at hl 1 rfl) ?_
  have hk7 := hw.1
  have hw := hw.2
  refine co_getr S hK hH 0 5 105 (by decide) ⟨by decide, rfl, rfl, rfl⟩ (Or.inl q266) hk6 (by rw [hk7]; decide) dX0_takesFar_10 ?_
  refine lv_iconst (v := 4) hx hb dX0_takesFar_13 (by decide) ?_
  refine co_calli (va_runV (As := [.int 4]) (rest := []) S (m2_twoAt l g AD M2 (mP M2 105 a0 0) 4 _ hk7 hw) (cwV 1 hts (lw_V q643 q635 q636 q56 q637) rfl rfl rfl (by decide +kernel) ⟨Nat.le_of_ble_eq_true rfl, Nat.le_of_ble_eq_true rfl⟩) ⟨co_blind, co_recv hK hH (c := 2) (by decide) hk7, co_pre hK hH hA hS⟩ rfl rfl hl.1 rfl (lv_room (Nat.le_of_ble_eq_true rfl)) dX0_takesFar_14 ⟨Nat.le_refl _, Nat.le_refl _⟩) hS (fun r9 M8 H locs hw hH hE10 hS => ?_)
  have hk12 := hE10.k hk6 (by decide)
  have hE := hE.tr hE10
  refine lv_istore_n (lv' := [(2, .int r9), (1, .int r3), (0, .ref a0)]) hx hb dX0_takesFar_17 rfl hl (by decide) rfl (fun ls hl => ?_)
  refine lv_aload_n hx hb dX0_takesFar_18 rfl (lv_at hl 2 rfl) ?_
  have hk13 := hw.1
  have hw := hw.2
  refine co_getr S hK hH 0 5 105 (by decide) ⟨by decide, rfl, rfl, rfl⟩ (Or.inl q266) hk12 (by rw [hk13]; decide) dX0_takesFar_19 ?_
  refine lv_bipush (v := 6) hx hb dX0_takesFar_22 (by decide) ?_
  refine co_calli (va_runV (As := [.int 6]) (rest := []) S (m2_twoAt l g AD M8 (mP M8 105 a0 0) 6 _ hk13 hw) (cwV 1 hts (lw_V q643 q635 q636 q56 q637) rfl rfl rfl (by decide +kernel) ⟨Nat.le_of_ble_eq_true rfl, Nat.le_of_ble_eq_true rfl⟩) ⟨co_blind, co_recv hK hH (c := 2) (by decide) hk13, co_pre hK hH hA hS⟩ rfl rfl hl.1 rfl (lv_room (Nat.le_of_ble_eq_true rfl)) dX0_takesFar_24 ⟨Nat.le_refl _, Nat.le_refl _⟩) hS (fun r15 M14 H locs hw hH hE16 hS => ?_)
  have hk18 := hE16.k hk12 (by decide)
  have hE := hE.tr hE16
  refine lv_istore_n (lv' := [(3, .int r15), (2, .int r9), (1, .int r3), (0, .ref a0)]) hx hb dX0_takesFar_27 rfl hl (by decide) rfl (fun ls hl => ?_)
  refine lv_iload_n hx hb dX0_takesFar_28 rfl (lv_at hl 2 rfl) ?_
  refine lv_aload_n hx hb dX0_takesFar_29 rfl (lv_at hl 3 rfl) ?_
  refine co_geti S hK hH 0 18 118 (by decide) ⟨by decide, rfl, rfl, rfl⟩ (Or.inl q279) hk18 dX0_takesFar_30 ?_
  refine lv_icmp_le (tgt := 48) hx hb dX0_takesFar_33 (by decide) (fun c19 => ?_) (fun c19 => ?_)
  · have hw := hw.1 c19
    refine lv_aload_n hx hb dX0_takesFar_48 rfl (lv_at hl 3 rfl) ?_
    refine co_geti S hK hH 0 18 118 (by decide) ⟨by decide, rfl, rfl, rfl⟩ (Or.inl q279) hk18 dX0_takesFar_49 ?_
    refine lv_topi (fun y4_20 ey4_20 => ?_)
    have hw := hw y4_20 ey4_20
    refine lv_istore (lv' := [(4, .int y4_20), (3, .int r15), (2, .int r9), (1, .int r3), (0, .ref a0)]) hx hb dX0_takesFar_52 hl (by decide) rfl (fun ls hl => ?_)
    obtain ⟨n, hw⟩ := hw
    refine r0_takesFar_54 S hr hlocks hK hA (fun M60 a0_56 x1_57 x2_58 x3_59 hw hE hk_a0_56 H locs hH hS ls hl => ?_) n _ _ _ _ _ _ hw hE hk18 _ _ hH hS _ (lv_sub hl [4, 3, 2, 1, 0] rfl)
    exact r0_takesFar_124 S hr hlocks hK hA  _ _ _ _ _ hw hE hk_a0_56 _ _ hH hS _ (lv_sub hl [0, 1, 2, 3] rfl)
  · have hw := hw.2 c19
    refine lv_aload_n hx hb dX0_takesFar_36 rfl (lv_at hl 3 rfl) ?_
    have hk96 := hw.1
    have hw := hw.2
    refine co_getr S hK hH 0 3 103 (by decide) ⟨by decide, rfl, rfl, rfl⟩ (Or.inl q264) hk18 (by rw [hk96]; decide) dX0_takesFar_37 ?_
    refine lv_iconst (v := 4) hx hb dX0_takesFar_40 (by decide) ?_
    refine lv_dup2_11 hx hb dX0_takesFar_41 rfl rfl ?_
    have hin97 := hw.1
    have hw := hw.2
    refine co_iald S hK hH 4 24 ⟨by decide, rfl, rfl⟩ hk96 hin97 dX0_takesFar_42 ?_
    refine lv_iconst (v := 1) hx hb dX0_takesFar_43 (by decide) ?_
    refine lv_iadd hx hb dX0_takesFar_44 ?_
    have hin98 := hw.1
    have hw := hw.2
    refine co_iast S hK hH hS 4 24 ⟨by decide, rfl, rfl⟩ hk96 hin98 dX0_takesFar_45 (fun H locs hH hS => ?_)
    obtain ⟨M99, eM99⟩ : ∃ y : Mm, y = sI M14 24 (mP M14 103 a0 0) (4 : Int32).toNatClampNeg ((mI M14 24 (mP M14 103 a0 0) (4 : Int32).toNatClampNeg) + 1) := ⟨_, rfl⟩
    have hw := hw M99 eM99
    rw [← eM99] at hH
    have hE100 : Ext M14 M99 := by rw [eM99]; exact Ext.sI
    have hk101 := hE100.k hk18 (by decide)
    have hE := hE.tr hE100
    refine lv_iconst (v := 0) hx hb dX0_takesFar_46 (by decide) ?_
    exact co_zret S hr hlocks hH hE hS rfl hw dX0_takesFar_47
