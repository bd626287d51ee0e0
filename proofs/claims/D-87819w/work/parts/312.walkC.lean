/-! FarTypewriter.scroll(I)Z -/
abbrev rm0_scroll : Room := { frames := 3, cells := 0, slots := 0, locals := 224 }
def w0_scroll (post : Int32 → Mm → Prop) (M : Mm) (a0 : Nat) (x1 : Int32) : Prop :=
  (x1 < 1 → post 0 M) ∧ (¬ x1 < 1 → (x1 ≤ 8 → mK M (mP M 126 a0 0) = 6 ∧ (w5_scroll (fun (M4 : Mm) => post 1 M4) M (mP M 126 a0 0) x1)) ∧ (¬ x1 ≤ 8 → post 0 M))
set_option maxHeartbeats 4000000 in
set_option maxRecDepth 100000 in
theorem m0_scroll (l : Launch) (g : CG) (AD : Nat → Prop) (M : Mm) (a0 : Nat) (x1 : Int32) (post : Int32 → Mm → Prop) (hk_a0 : mK M a0 = 1) (hw : w0_scroll post M a0 x1) : Met l yX0_scroll (ws_ yX0_scroll cX0_scroll 2 (some .boolean)) rm0_scroll (CPc g AD M [.ref a0, .int x1]) (CQi g AD M post) 0 0 AD := by
  refine Met.ofW (cc := cX0_scroll) (maxL := 2) (ret := (some .boolean)) (by decide) rfl ?_
  intro p e s m args below meth c s₁ B hml hv
  obtain ⟨rfl, hK, hH, hA⟩ := hv
  have hx := B.exec
  have hb := B.bytes
  have hr : meth.sig.returnType = (some .boolean) := B.returns
  have hts := atoms_spec (ws := ws_ yX0_scroll cX0_scroll 2 (some .boolean)) B.pre
  have hts : ∀ w ∈ lw_all, w.before _ s = true := fun w h => hts w (List.mem_cons_of_mem _ h)
  have hown : s.vm.findClass RX0 = some m.cls := findClass_of_methodNamed B.named
  have hlocks : meth.locks = false := B.notSynchronized
  have S : CallFix p m c cX0_scroll 2 s _ lw_all RX0 := ⟨hx, hb, hml, hown, hts⟩
  have hS : va_S AD s.heap s.heap [] := va_S.rf
  have hE : Ext M M := Ext.rf
  have hl := lv_entry ([.ref a0, .int x1]) (n := 2) (Nat.le_of_ble_eq_true rfl)
  rw [lg_entry_eq]
  generalize (lg_sl ([.ref a0, .int x1]) ++ List.replicate (2 - (lg_sl ([.ref a0, .int x1])).length) Slot.unset).toArray = ls at hl ⊢
  have hl : lv_has ls 2 [(0, .ref a0), (1, .int x1)] := hl
  unfold w0_scroll at hw
  refine lv_iload_n hx hb dX0_scroll_0 rfl (lv_at hl 1 rfl) ?_
  refine lv_iconst (v := 1) hx hb dX0_scroll_1 (by decide) ?_
  refine lv_icmp_lt (tgt := 11) hx hb dX0_scroll_2 (by decide) (fun c1 => ?_) (fun c1 => ?_)
  · have hw := hw.1 c1
    refine lv_iconst (v := 0) hx hb dX0_scroll_11 (by decide) ?_
    exact co_zret S hr hlocks hH hE hS rfl hw dX0_scroll_12
  · have hw := hw.2 c1
    refine lv_iload_n hx hb dX0_scroll_5 rfl (lv_at hl 1 rfl) ?_
    refine lv_bipush (v := 8) hx hb dX0_scroll_6 (by decide) ?_
    refine lv_icmp_le (tgt := 13) hx hb dX0_scroll_8 (by decide) (fun c2 => ?_) (fun c2 => ?_)
    · have hw := hw.1 c2
      refine lv_aload_n hx hb dX0_scroll_13 rfl (lv_at hl 0 rfl) ?_
      have hk3 := hw.1
      have hw := hw.2
      refine co_getr S hK hH 0 26 126 (by decide) ⟨by decide, rfl, rfl, rfl⟩ (Or.inl q287) hk_a0 (by rw [hk3]; decide) dX0_scroll_14 ?_
      refine lv_iload_n hx hb dX0_scroll_17 rfl (lv_at hl 1 rfl) ?_
      refine co_callv (va_runV (As := [.int x1]) (rest := []) S (m5_scroll l g AD M (mP M 126 a0 0) x1 _ hk3 hw) (cwV 1 hts (lw_V q509 q412 q413 q59 q414) rfl rfl rfl (by decide +kernel) ⟨Nat.le_of_ble_eq_true rfl, Nat.le_of_ble_eq_true rfl⟩) ⟨co_blind, co_recv hK hH (c := 5) (by decide) hk3, co_pre hK hH hA hS⟩ rfl rfl hl.1 rfl (lv_room (Nat.le_of_ble_eq_true rfl)) dX0_scroll_18 ⟨Nat.le_refl _, Nat.le_refl _⟩) hS (fun M4 H locs hw hH hE6 hS => ?_)
      have hk8 := hE6.k hk_a0 (by decide)
      have hE := hE.tr hE6
      refine lv_iconst (v := 1) hx hb dX0_scroll_21 (by decide) ?_
      exact co_zret S hr hlocks hH hE hS rfl hw dX0_scroll_22
    · have hw := hw.2 c2
      refine lv_iconst (v := 0) hx hb dX0_scroll_11 (by decide) ?_
      exact co_zret S hr hlocks hH hE hS rfl hw dX0_scroll_12
/-! FarTypewriter.state(II)I -/
abbrev rm0_state : Room := { frames := 1, cells := 0, slots := 0, locals := 20 }
def w0_state_115 (post : Int32 → Mm → Prop)  (M : Mm) (b0 : Nat) : Prop :=
  w3_newest (fun (r9 : Nat) (M8 : Mm) => post (mI M8 501 r9 0) M8) M b0
set_option maxHeartbeats 4000000 in
set_option maxRecDepth 100000 in
theorem r0_state_115 {p : Program} {l : Launch} {e : Env} {s : State} {m : MethodId} {args : Array Value} {below : List Frame} {meth : Method} {c : Code} {g : CG} {AD : Nat → Prop} {M0 : Mm} (S : CallFix p m c cX0_state 4 s args lw_all RX0) (hr : meth.sig.returnType = (some .int)) (hlocks : meth.locks = false) (hK : KC g s) (hA : ∀ q, s.heap.size ≤ q → AD q) {post : Int32 → Mm → Prop}  : ∀ (M : Mm) (b0 : Nat), w0_state_115 post  M b0 → Ext M0 M → mK M b0 = 4 → ∀ (H : Heap) (locs : List Loc), HC g AD M H → va_S AD s.heap H locs → ∀ (ls : Array Slot), lv_has ls 4 [] → W p l e rm0_state s m args below meth c H locs 0 0 (MQ below (CQi g AD M0 post) args s 0 0 AD) (F0 m 115 ls [.ref b0]) := by
  have hx := S.1
  have hb := S.2.1
  have hown := S.2.2.2.1
  have hts := S.2.2.2.2
  intro M b0 hw hE hk_b0 H locs hH hS ls hl
  unfold w0_state_115 at hw
  refine co_callr (va_runV (As := []) (rest := []) S (m3_newest l g AD M b0 _ hk_b0 hw) (cwV 0 hts (lw_V q536 q258 q259 q57 q260) rfl rfl rfl (by decide +kernel) ⟨Nat.le_of_ble_eq_true rfl, Nat.le_of_ble_eq_true rfl⟩) ⟨co_blind, co_recv hK hH (c := 3) (by decide) hk_b0, co_pre hK hH hA hS⟩ rfl rfl hl.1 rfl (lv_room (Nat.le_of_ble_eq_true rfl)) dX0_state_115 ⟨Nat.le_refl _, Nat.le_refl _⟩) hS (fun r9 M8 H locs hw hH hE10 hk11 hS => ?_)
  have hE := hE.tr hE10
  have hk11 : mK M8 r9 = 5 := hk11
  refine co_geti S hK hH 4 1 501 (by decide) ⟨by decide, rfl, rfl, rfl⟩ (Or.inr ⟨_, q175⟩) hk11 dX0_state_118 ?_
  exact co_iret S hr hlocks hH hE hS hw dX0_state_121
def w0_state_218 (post : Int32 → Mm → Prop)  (M : Mm) (t0 : Int32) : Prop :=
  post t0 M
set_option maxHeartbeats 4000000 in
set_option maxRecDepth 100000 in
theorem r0_state_218 {p : Program} {l : Launch} {e : Env} {s : State} {m : MethodId} {args : Array Value} {below : List Frame} {meth : Method} {c : Code} {g : CG} {AD : Nat → Prop} {M0 : Mm} (S : CallFix p m c cX0_state 4 s args lw_all RX0) (hr : meth.sig.returnType = (some .int)) (hlocks : meth.locks = false) (hK : KC g s) (hA : ∀ q, s.heap.size ≤ q → AD q) {post : Int32 → Mm → Prop}  : ∀ (M : Mm) (t0 : Int32), w0_state_218 post  M t0 → Ext M0 M → ∀ (H : Heap) (locs : List Loc), HC g AD M H → va_S AD s.heap H locs → ∀ (ls : Array Slot), lv_has ls 4 [] → W p l e rm0_state s m args below meth c H locs 0 0 (MQ below (CQi g AD M0 post) args s 0 0 AD) (F0 m 218 ls [.int t0]) := by
  have hx := S.1
  have hb := S.2.1
  have hown := S.2.2.2.1
  have hts := S.2.2.2.2
  intro M t0 hw hE H locs hH hS ls hl
  unfold w0_state_218 at hw
  exact co_iret S hr hlocks hH hE hS hw dX0_state_218
def w0_state_20 (post : Int32 → Mm → Prop)  (M : Mm) (a0 : Nat) (x2 : Int32) (t0 : Int32) : Prop :=
  (x2 = 0 → (t0 = 0 → post (mI M 118 a0 0) M) ∧ (¬ t0 = 0 → post (mI M 107 a0 0) M)) ∧ (x2 = 1 → (t0 = 0 → post (mI M 119 a0 0) M) ∧ (¬ t0 = 0 → post (mI M 108 a0 0) M)) ∧ (x2 = 2 → (t0 = 0 → mK M (mP M 125 a0 0) = 4 ∧ (w0_state_115 post M (mP M 125 a0 0))) ∧ (¬ t0 = 0 → mK M (mP M 114 a0 0) = 4 ∧ (w0_state_115 post M (mP M 114 a0 0)))) ∧ (x2 = 3 → (t0 = 0 → mK M (mP M 125 a0 0) = 4 ∧ (post (mI M 401 (mP M 125 a0 0) 0) M)) ∧ (¬ t0 = 0 → mK M (mP M 114 a0 0) = 4 ∧ (post (mI M 401 (mP M 114 a0 0) 0) M))) ∧ (x2 = 4 → (t0 = 0 → post (mI M 121 a0 0) M) ∧ (¬ t0 = 0 → post (mI M 110 a0 0) M)) ∧ (x2 = 5 → (t0 = 0 → ((mI M 124 a0 0) = 0 → post 0 M) ∧ (¬ (mI M 124 a0 0) = 0 → post 1 M)) ∧ (¬ t0 = 0 → ((mI M 113 a0 0) = 0 → post 0 M) ∧ (¬ (mI M 113 a0 0) = 0 → post 1 M))) ∧ (x2 = 6 → (t0 = 0 → post (mI M 122 a0 0) M) ∧ (¬ t0 = 0 → post (mI M 111 a0 0) M)) ∧ (x2 = 7 → (t0 = 0 → isPrg (mK M (mP M 115 a0 0)) ∧ ((mK M (mP M 115 a0 0) = 8 → w6_counted (fun (r24 : Int32) (M23 : Mm) => w0_state_218 post M23 r24) M (mP M 115 a0 0)) ∧ (mK M (mP M 115 a0 0) = 11 → w6_counted (fun (r29 : Int32) (M28 : Mm) => w0_state_218 post M28 r29) M (mP M 115 a0 0)) ∧ (mK M (mP M 115 a0 0) = 12 → w11_counted (fun (r34 : Int32) (M33 : Mm) => w0_state_218 post M33 r34) M (mP M 115 a0 0)) ∧ (mK M (mP M 115 a0 0) = 13 → w6_counted (fun (r39 : Int32) (M38 : Mm) => w0_state_218 post M38 r39) M (mP M 115 a0 0)))) ∧ (¬ t0 = 0 → w0_state_218 post M (mI M 112 a0 0))) ∧ (¬ x2 = 0 → ¬ x2 = 1 → ¬ x2 = 2 → ¬ x2 = 3 → ¬ x2 = 4 → ¬ x2 = 5 → ¬ x2 = 6 → ¬ x2 = 7 → post (-1) M)
set_option maxHeartbeats 4000000 in
set_option maxRecDepth 100000 in
theorem r0_state_20 {p : Program} {l : Launch} {e : Env} {s : State} {m : MethodId} {args : Array Value} {below : List Frame} {meth : Method} {c : Code} {g : CG} {AD : Nat → Prop} {M0 : Mm} (S : CallFix p m c cX0_state 4 s args lw_all RX0) (hr : meth.sig.returnType = (some .int)) (hlocks : meth.locks = false) (hK : KC g s) (hA : ∀ q, s.heap.size ≤ q → AD q) {post : Int32 → Mm → Prop}  : ∀ (M : Mm) (a0 : Nat) (x2 : Int32) (t0 : Int32), w0_state_20 post  M a0 x2 t0 → Ext M0 M → mK M a0 = 1 → ∀ (H : Heap) (locs : List Loc), HC g AD M H → va_S AD s.heap H locs → ∀ (ls : Array Slot), lv_has ls 4 [(0, .ref a0), (2, .int x2)] → W p l e rm0_state s m args below meth c H locs 0 0 (MQ below (CQi g AD M0 post) args s 0 0 AD) (F0 m 20 ls [.int t0]) := by
  have hx := S.1
  have hb := S.2.1
  have hown := S.2.2.2.1
  have hts := S.2.2.2.2
  intro M a0 x2 t0 hw hE hk_a0 H locs hH hS ls hl
  unfold w0_state_20 at hw
  refine lv_istore_n (lv' := [(3, .int t0), (0, .ref a0), (2, .int x2)]) hx hb dX0_state_20 rfl hl (by decide) rfl (fun ls hl => ?_)
  refine lv_iload_n hx hb dX0_state_21 rfl (lv_at hl 2 rfl) ?_
  by_cases cs0 : x2 = 0
  · have hw := hw.1 cs0
    refine lv_tableIn (off := 46) (tgt := 68) hx hb dX0_state_22 (by rw [cs0]; decide) (by rw [cs0]; decide) (by rw [cs0]; decide) (by decide) ?_
    refine lv_iload_n hx hb dX0_state_68 rfl (lv_at hl 0 rfl) ?_
    refine lv_if_eq (tgt := 79) hx hb dX0_state_69 (by decide) (fun c4 => ?_) (fun c4 => ?_)
    · have hw := hw.1 c4
      refine lv_aload_n hx hb dX0_state_79 rfl (lv_at hl 1 rfl) ?_
      refine co_geti S hK hH 0 18 118 (by decide) ⟨by decide, rfl, rfl, rfl⟩ (Or.inl q279) hk_a0 dX0_state_80 ?_
      exact co_iret S hr hlocks hH hE hS hw dX0_state_83
    · have hw := hw.2 c4
      refine lv_aload_n hx hb dX0_state_72 rfl (lv_at hl 1 rfl) ?_
      refine co_geti S hK hH 0 7 107 (by decide) ⟨by decide, rfl, rfl, rfl⟩ (Or.inl q268) hk_a0 dX0_state_73 ?_
      refine lv_goto (tgt := 83) hx hb dX0_state_76 (by decide) ?_
      exact co_iret S hr hlocks hH hE hS hw dX0_state_83
  by_cases cs1 : x2 = 1
  · have hw := hw.2.1 cs1
    refine lv_tableIn (off := 62) (tgt := 84) hx hb dX0_state_22 (by rw [cs1]; decide) (by rw [cs1]; decide) (by rw [cs1]; decide) (by decide) ?_
    refine lv_iload_n hx hb dX0_state_84 rfl (lv_at hl 0 rfl) ?_
    refine lv_if_eq (tgt := 95) hx hb dX0_state_85 (by decide) (fun c5 => ?_) (fun c5 => ?_)
    · have hw := hw.1 c5
      refine lv_aload_n hx hb dX0_state_95 rfl (lv_at hl 1 rfl) ?_
      refine co_geti S hK hH 0 19 119 (by decide) ⟨by decide, rfl, rfl, rfl⟩ (Or.inl q280) hk_a0 dX0_state_96 ?_
      exact co_iret S hr hlocks hH hE hS hw dX0_state_99
    · have hw := hw.2 c5
      refine lv_aload_n hx hb dX0_state_88 rfl (lv_at hl 1 rfl) ?_
      refine co_geti S hK hH 0 8 108 (by decide) ⟨by decide, rfl, rfl, rfl⟩ (Or.inl q269) hk_a0 dX0_state_89 ?_
      refine lv_goto (tgt := 99) hx hb dX0_state_92 (by decide) ?_
      exact co_iret S hr hlocks hH hE hS hw dX0_state_99
  by_cases cs2 : x2 = 2
  · have hw := hw.2.2.1 cs2
    refine lv_tableIn (off := 78) (tgt := 100) hx hb dX0_state_22 (by rw [cs2]; decide) (by rw [cs2]; decide) (by rw [cs2]; decide) (by decide) ?_
    refine lv_iload_n hx hb dX0_state_100 rfl (lv_at hl 0 rfl) ?_
    refine lv_if_eq (tgt := 111) hx hb dX0_state_101 (by decide) (fun c6 => ?_) (fun c6 => ?_)
    · have hw := hw.1 c6
      refine lv_aload_n hx hb dX0_state_111 rfl (lv_at hl 1 rfl) ?_
      have hk7 := hw.1
      have hw := hw.2
      refine co_getr S hK hH 0 25 125 (by decide) ⟨by decide, rfl, rfl, rfl⟩ (Or.inl q286) hk_a0 (by rw [hk7]; decide) dX0_state_112 ?_
      exact r0_state_115 S hr hlocks hK hA  _ _ hw hE hk7 _ _ hH hS _ (lv_sub hl [] rfl)
    · have hw := hw.2 c6
      refine lv_aload_n hx hb dX0_state_104 rfl (lv_at hl 1 rfl) ?_
      have hk12 := hw.1
      have hw := hw.2
      refine co_getr S hK hH 0 14 114 (by decide) ⟨by decide, rfl, rfl, rfl⟩ (Or.inl q275) hk_a0 (by rw [hk12]; decide) dX0_state_105 ?_
      refine lv_goto (tgt := 115) hx hb dX0_state_108 (by decide) ?_
      exact r0_state_115 S hr hlocks hK hA  _ _ hw hE hk12 _ _ hH hS _ (lv_sub hl [] rfl)
  by_cases cs3 : x2 = 3
  · have hw := hw.2.2.2.1 cs3
    refine lv_tableIn (off := 100) (tgt := 122) hx hb dX0_state_22 (by rw [cs3]; decide) (by rw [cs3]; decide) (by rw [cs3]; decide) (by decide) ?_
    refine lv_iload_n hx hb dX0_state_122 rfl (lv_at hl 0 rfl) ?_
    refine lv_if_eq (tgt := 133) hx hb dX0_state_123 (by decide) (fun c13 => ?_) (fun c13 => ?_)
    · have hw := hw.1 c13
      refine lv_aload_n hx hb dX0_state_133 rfl (lv_at hl 1 rfl) ?_
      have hk14 := hw.1
      have hw := hw.2
      refine co_getr S hK hH 0 25 125 (by decide) ⟨by decide, rfl, rfl, rfl⟩ (Or.inl q286) hk_a0 (by rw [hk14]; decide) dX0_state_134 ?_
      refine co_geti S hK hH 3 1 401 (by decide) ⟨by decide, rfl, rfl, rfl⟩ (Or.inr ⟨_, q188⟩) hk14 dX0_state_137 ?_
      exact co_iret S hr hlocks hH hE hS hw dX0_state_140
    · have hw := hw.2 c13
      refine lv_aload_n hx hb dX0_state_126 rfl (lv_at hl 1 rfl) ?_
      have hk15 := hw.1
      have hw := hw.2
      refine co_getr S hK hH 0 14 114 (by decide) ⟨by decide, rfl, rfl, rfl⟩ (Or.inl q275) hk_a0 (by rw [hk15]; decide) dX0_state_127 ?_
      refine lv_goto (tgt := 137) hx hb dX0_state_130 (by decide) ?_
      refine co_geti S hK hH 3 1 401 (by decide) ⟨by decide, rfl, rfl, rfl⟩ (Or.inr ⟨_, q188⟩) hk15 dX0_state_137 ?_
      exact co_iret S hr hlocks hH hE hS hw dX0_state_140
  by_cases cs4 : x2 = 4
  · have hw := hw.2.2.2.2.1 cs4
    refine lv_tableIn (off := 119) (tgt := 141) hx hb dX0_state_22 (by rw [cs4]; decide) (by rw [cs4]; decide) (by rw [cs4]; decide) (by decide) ?_
    refine lv_iload_n hx hb dX0_state_141 rfl (lv_at hl 0 rfl) ?_
    refine lv_if_eq (tgt := 152) hx hb dX0_state_142 (by decide) (fun c16 => ?_) (fun c16 => ?_)
    · have hw := hw.1 c16
      refine lv_aload_n hx hb dX0_state_152 rfl (lv_at hl 1 rfl) ?_
      refine co_geti S hK hH 0 21 121 (by decide) ⟨by decide, rfl, rfl, rfl⟩ (Or.inl q282) hk_a0 dX0_state_153 ?_
      exact co_iret S hr hlocks hH hE hS hw dX0_state_156
    · have hw := hw.2 c16
      refine lv_aload_n hx hb dX0_state_145 rfl (lv_at hl 1 rfl) ?_
      refine co_geti S hK hH 0 10 110 (by decide) ⟨by decide, rfl, rfl, rfl⟩ (Or.inl q271) hk_a0 dX0_state_146 ?_
      refine lv_goto (tgt := 156) hx hb dX0_state_149 (by decide) ?_
      exact co_iret S hr hlocks hH hE hS hw dX0_state_156
  by_cases cs5 : x2 = 5
  · have hw := hw.2.2.2.2.2.1 cs5
    refine lv_tableIn (off := 135) (tgt := 157) hx hb dX0_state_22 (by rw [cs5]; decide) (by rw [cs5]; decide) (by rw [cs5]; decide) (by decide) ?_
    refine lv_iload_n hx hb dX0_state_157 rfl (lv_at hl 0 rfl) ?_
    refine lv_if_eq (tgt := 171) hx hb dX0_state_158 (by decide) (fun c17 => ?_) (fun c17 => ?_)
    · have hw := hw.1 c17
      refine lv_aload_n hx hb dX0_state_171 rfl (lv_at hl 1 rfl) ?_
      refine co_geti S hK hH 0 24 124 (by decide) ⟨by decide, rfl, rfl, rfl⟩ (Or.inl q285) hk_a0 dX0_state_172 ?_
      refine lv_if_eq (tgt := 182) hx hb dX0_state_175 (by decide) (fun c18 => ?_) (fun c18 => ?_)
      · have hw := hw.1 c18
        refine lv_iconst (v := 0) hx hb dX0_state_182 (by decide) ?_
        exact co_iret S hr hlocks hH hE hS hw dX0_state_183
      · have hw := hw.2 c18
        refine lv_iconst (v := 1) hx hb dX0_state_178 (by decide) ?_
        refine lv_goto (tgt := 183) hx hb dX0_state_179 (by decide) ?_
        exact co_iret S hr hlocks hH hE hS hw dX0_state_183
    · have hw := hw.2 c17
      refine lv_aload_n hx hb dX0_state_161 rfl (lv_at hl 1 rfl) ?_
      refine co_geti S hK hH 0 13 113 (by decide) ⟨by decide, rfl, rfl, rfl⟩ (Or.inl q274) hk_a0 dX0_state_162 ?_
      refine lv_if_eq (tgt := 182) hx hb dX0_state_165 (by decide) (fun c19 => ?_) (fun c19 => ?_)
      · have hw := hw.1 c19
        refine lv_iconst (v := 0) hx hb dX0_state_182 (by decide) ?_
        exact co_iret S hr hlocks hH hE hS hw dX0_state_183
      · have hw := hw.2 c19
        refine lv_goto (tgt := 178) hx hb dX0_state_168 (by decide) ?_
        refine lv_iconst (v := 1) hx hb dX0_state_178 (by decide) ?_
        refine lv_goto (tgt := 183) hx hb dX0_state_179 (by decide) ?_
        exact co_iret S hr hlocks hH hE hS hw dX0_state_183
  by_cases cs6 : x2 = 6
  · have hw := hw.2.2.2.2.2.2.1 cs6
    refine lv_tableIn (off := 162) (tgt := 184) hx hb dX0_state_22 (by rw [cs6]; decide) (by rw [cs6]; decide) (by rw [cs6]; decide) (by decide) ?_
    refine lv_iload_n hx hb dX0_state_184 rfl (lv_at hl 0 rfl) ?_
    refine lv_if_eq (tgt := 195) hx hb dX0_state_185 (by decide) (fun c20 => ?_) (fun c20 => ?_)
    · have hw := hw.1 c20
      refine lv_aload_n hx hb dX0_state_195 rfl (lv_at hl 1 rfl) ?_
      refine co_geti S hK hH 0 22 122 (by decide) ⟨by decide, rfl, rfl, rfl⟩ (Or.inl q283) hk_a0 dX0_state_196 ?_
      exact co_iret S hr hlocks hH hE hS hw dX0_state_199
    · have hw := hw.2 c20
      refine lv_aload_n hx hb dX0_state_188 rfl (lv_at hl 1 rfl) ?_
      refine co_geti S hK hH 0 11 111 (by decide) ⟨by decide, rfl, rfl, rfl⟩ (Or.inl q272) hk_a0 dX0_state_189 ?_
      refine lv_goto (tgt := 199) hx hb dX0_state_192 (by decide) ?_
      exact co_iret S hr hlocks hH hE hS hw dX0_state_199
  by_cases cs7 : x2 = 7
  · have hw := hw.2.2.2.2.2.2.2.1 cs7
    refine lv_tableIn (off := 178) (tgt := 200) hx hb dX0_state_22 (by rw [cs7]; decide) (by rw [cs7]; decide) (by rw [cs7]; decide) (by decide) ?_
    refine lv_iload_n hx hb dX0_state_200 rfl (lv_at hl 0 rfl) ?_
    refine lv_if_eq (tgt := 211) hx hb dX0_state_201 (by decide) (fun c21 => ?_) (fun c21 => ?_)
    · have hw := hw.1 c21
      refine lv_aload_n hx hb dX0_state_211 rfl (lv_at hl 1 rfl) ?_
      have hk22 := hw.1
      have hw := hw.2
      refine co_getr S hK hH 0 15 115 (by decide) ⟨by decide, rfl, rfl, rfl⟩ (Or.inl q276) hk_a0 hk22.ne dX0_state_212 ?_
      rcases hk22 with hq | hq | hq | hq
      · have hw := hw.1 hq
        refine co_calli (va_runU (As := []) (rest := []) S (m6_counted l g AD M (mP M 115 a0 0) _ hw) (va_cwU (owner := "FarTypewriter$Program") (x := ⟨"FarTypewriter$Program", "counted", "()I"⟩) 0 hts (lw_U q738 q740 q741 q739 q60 q747) rfl rfl rfl rfl (by decide +kernel) ⟨Nat.le_of_ble_eq_true rfl, Nat.le_of_ble_eq_true rfl⟩) ⟨co_blind, co_recv hK hH (c := 7) (by decide) hq, co_pre hK hH hA hS⟩ rfl rfl hl.1 rfl (lv_room (Nat.le_of_ble_eq_true rfl)) dX0_state_215 ⟨Nat.le_refl _, Nat.le_refl _⟩) hS (fun r24 M23 H locs hw hH hE25 hS => ?_)
        have hk27 := hE25.k hk_a0 (by decide)
        have hE := hE.tr hE25
        exact r0_state_218 S hr hlocks hK hA  _ _ hw hE _ _ hH hS _ (lv_sub hl [] rfl)
      · have hw := hw.2.1 hq
        refine co_calli (va_runU (As := []) (rest := []) S (m6_counted l g AD M (mP M 115 a0 0) _ hw) (va_cwU (owner := "FarTypewriter$Program") (x := ⟨"FarTypewriter$Program", "counted", "()I"⟩) 0 hts (lw_U q738 q740 q742 q739 q60 q747) rfl rfl rfl rfl (by decide +kernel) ⟨Nat.le_of_ble_eq_true rfl, Nat.le_of_ble_eq_true rfl⟩) ⟨co_blind, co_recv hK hH (c := 10) (by decide) hq, co_pre hK hH hA hS⟩ rfl rfl hl.1 rfl (lv_room (Nat.le_of_ble_eq_true rfl)) dX0_state_215 ⟨Nat.le_refl _, Nat.le_refl _⟩) hS (fun r29 M28 H locs hw hH hE30 hS => ?_)
        have hk32 := hE30.k hk_a0 (by decide)
        have hE := hE.tr hE30
        exact r0_state_218 S hr hlocks hK hA  _ _ hw hE _ _ hH hS _ (lv_sub hl [] rfl)
      · have hw := hw.2.2.1 hq
        refine co_calli (va_runU (As := []) (rest := []) S (m11_counted l g AD M (mP M 115 a0 0) _ hq hw) (va_cwO (owner := "FarTypewriter$Program") (x := ⟨"FarTypewriter$Program", "counted", "()I"⟩) 0 hts (lw_O q738 q740 q739 q744 q745 q66 q746) rfl rfl rfl q747 (by decide +kernel) ⟨Nat.le_of_ble_eq_true rfl, Nat.le_of_ble_eq_true rfl⟩) ⟨co_blind, co_recv hK hH (c := 11) (by decide) hq, co_pre hK hH hA hS⟩ rfl rfl hl.1 rfl (lv_room (Nat.le_of_ble_eq_true rfl)) dX0_state_215 ⟨Nat.le_refl _, Nat.le_refl _⟩) hS (fun r34 M33 H locs hw hH hE35 hS => ?_)
        have hk37 := hE35.k hk_a0 (by decide)
        have hE := hE.tr hE35
        exact r0_state_218 S hr hlocks hK hA  _ _ hw hE _ _ hH hS _ (lv_sub hl [] rfl)
      · have hw := hw.2.2.2 hq
        refine co_calli (va_runU (As := []) (rest := []) S (m6_counted l g AD M (mP M 115 a0 0) _ hw) (va_cwU (owner := "FarTypewriter$Program") (x := ⟨"FarTypewriter$Program", "counted", "()I"⟩) 0 hts (lw_U q738 q740 q743 q739 q60 q747) rfl rfl rfl rfl (by decide +kernel) ⟨Nat.le_of_ble_eq_true rfl, Nat.le_of_ble_eq_true rfl⟩) ⟨co_blind, co_recv hK hH (c := 12) (by decide) hq, co_pre hK hH hA hS⟩ rfl rfl hl.1 rfl (lv_room (Nat.le_of_ble_eq_true rfl)) dX0_state_215 ⟨Nat.le_refl _, Nat.le_refl _⟩) hS (fun r39 M38 H locs hw hH hE40 hS => ?_)
        have hk42 := hE40.k hk_a0 (by decide)
        have hE := hE.tr hE40
        exact r0_state_218 S hr hlocks hK hA  _ _ hw hE _ _ hH hS _ (lv_sub hl [] rfl)
    · have hw := hw.2 c21
      refine lv_aload_n hx hb dX0_state_204 rfl (lv_at hl 1 rfl) ?_
      refine co_geti S hK hH 0 12 112 (by decide) ⟨by decide, rfl, rfl, rfl⟩ (Or.inl q273) hk_a0 dX0_state_205 ?_
      refine lv_goto (tgt := 218) hx hb dX0_state_208 (by decide) ?_
      exact r0_state_218 S hr hlocks hK hA  _ _ hw hE _ _ hH hS _ (lv_sub hl [] rfl)
  have hw := hw.2.2.2.2.2.2.2.2 cs0 cs1 cs2 cs3 cs4 cs5 cs6 cs7
  have ne0 := lv_neT (a := 0) cs0 rfl
  have ne1 := lv_neT (a := 1) cs1 rfl
  have ne2 := lv_neT (a := 2) cs2 rfl
  have ne3 := lv_neT (a := 3) cs3 rfl
  have ne4 := lv_neT (a := 4) cs4 rfl
  have ne5 := lv_neT (a := 5) cs5 rfl
  have ne6 := lv_neT (a := 6) cs6 rfl
  have ne7 := lv_neT (a := 7) cs7 rfl
  refine lv_tableOut (tgt := 219) hx hb dX0_state_22 (by omega) (by decide) ?_
  refine lv_iconst (v := (-1)) hx hb dX0_state_219 (by decide) ?_
  exact co_iret S hr hlocks hH hE hS hw dX0_state_220
def w0_state (post : Int32 → Mm → Prop) (M : Mm) (a0 : Nat) (x1 : Int32) (x2 : Int32) : Prop :=
  (x1 < 0 → post (-1) M) ∧ (¬ x1 < 0 → (x1 ≤ 1 → (x1 = 0 → w0_state_20 post M a0 x2 1) ∧ (¬ x1 = 0 → w0_state_20 post M a0 x2 0)) ∧ (¬ x1 ≤ 1 → post (-1) M))
set_option maxHeartbeats 4000000 in
set_option maxRecDepth 100000 in
theorem m0_state (l : Launch) (g : CG) (AD : Nat → Prop) (M : Mm) (a0 : Nat) (x1 : Int32) (x2 : Int32) (post : Int32 → Mm → Prop) (hk_a0 : mK M a0 = 1) (hw : w0_state post M a0 x1 x2) : Met l yX0_state (ws_ yX0_state cX0_state 4 (some .int)) rm0_state (CPc g AD M [.ref a0, .int x1, .int x2]) (CQi g AD M post) 0 0 AD := by
  refine Met.ofW (cc := cX0_state) (maxL := 4) (ret := (some .int)) (by decide) rfl ?_
  intro p e s m args below meth c s₁ B hml hv
  obtain ⟨rfl, hK, hH, hA⟩ := hv
  have hx := B.exec
  have hb := B.bytes
  have hr : meth.sig.returnType = (some .int) := B.returns
  have hts := atoms_spec (ws := ws_ yX0_state cX0_state 4 (some .int)) B.pre
  have hts : ∀ w ∈ lw_all, w.before _ s = true := fun w h => hts w (List.mem_cons_of_mem _ h)
  have hown : s.vm.findClass RX0 = some m.cls := findClass_of_methodNamed B.named
  have hlocks : meth.locks = false := B.notSynchronized
  have S : CallFix p m c cX0_state 4 s _ lw_all RX0 := ⟨hx, hb, hml, hown, hts⟩
  have hS : va_S AD s.heap s.heap [] := va_S.rf
  have hE : Ext M M := Ext.rf
  have hl := lv_entry ([.ref a0, .int x1, .int x2]) (n := 4) (Nat.le_of_ble_eq_true rfl)
  rw [lg_entry_eq]
  generalize (lg_sl ([.ref a0, .int x1, .int x2]) ++ List.replicate (4 - (lg_sl ([.ref a0, .int x1, .int x2])).length) Slot.unset).toArray = ls at hl ⊢
  have hl : lv_has ls 4 [(0, .ref a0), (1, .int x1), (2, .int x2)] := hl
  unfold w0_state at hw
  refine lv_iload_n hx hb dX0_state_0 rfl (lv_at hl 1 rfl) ?_
  refine lv_if_lt (tgt := 9) hx hb dX0_state_1 (by decide) (fun c1 => ?_) (fun c1 => ?_)
  · have hw := hw.1 c1
    refine lv_iconst (v := (-1)) hx hb dX0_state_9 (by decide) ?_
    exact co_iret S hr hlocks hH hE hS hw dX0_state_10
  · have hw := hw.2 c1
    refine lv_iload_n hx hb dX0_state_4 rfl (lv_at hl 1 rfl) ?_
    refine lv_iconst (v := 1) hx hb dX0_state_5 (by decide) ?_
    refine lv_icmp_le (tgt := 11) hx hb dX0_state_6 (by decide) (fun c2 => ?_) (fun c2 => ?_)
    · have hw := hw.1 c2
      refine lv_iload_n hx hb dX0_state_11 rfl (lv_at hl 1 rfl) ?_
      refine lv_if_ne (tgt := 19) hx hb dX0_state_12 (by decide) (fun c3 => ?_) (fun c3 => ?_)
      · have hw := hw.2 c3
        refine lv_iconst (v := 0) hx hb dX0_state_19 (by decide) ?_
        exact r0_state_20 S hr hlocks hK hA  _ _ _ _ hw hE hk_a0 _ _ hH hS _ (lv_sub hl [0, 2] rfl)
      · have hw := hw.1 c3
        refine lv_iconst (v := 1) hx hb dX0_state_15 (by decide) ?_
        refine lv_goto (tgt := 20) hx hb dX0_state_16 (by decide) ?_
        exact r0_state_20 S hr hlocks hK hA  _ _ _ _ hw hE hk_a0 _ _ hH hS _ (lv_sub hl [0, 2] rfl)
    · have hw := hw.2 c2
      refine lv_iconst (v := (-1)) hx hb dX0_state_9 (by decide) ?_
      exact co_iret S hr hlocks hH hE hS hw dX0_state_10
/-! FarTypewriter.write(I)Z -/
abbrev rm0_write : Room := { frames := 5, cells := 0, slots := 0, locals := 266 }
def w0_write (post : Int32 → Mm → Prop) (M : Mm) (a0 : Nat) (x1 : Int32) : Prop :=
  w0_isLetter (fun (r2 : Int32) (M1 : Mm) => (r2 = 0 → (x1 = 13 → mK M1 (mP M1 126 a0 0) = 6 ∧ (w5_newLine (fun (M16 : Mm) => post 1 M16) M1 (mP M1 126 a0 0))) ∧ (¬ x1 = 13 → (x1 = 8 → mK M1 (mP M1 126 a0 0) = 6 ∧ (w5_back (fun (M10 : Mm) => post 1 M10) M1 (mP M1 126 a0 0))) ∧ (¬ x1 = 8 → post 0 M1))) ∧ (¬ r2 = 0 → mK M1 (mP M1 126 a0 0) = 6 ∧ (w5_letter (fun (M22 : Mm) => post 1 M22) M1 (mP M1 126 a0 0) x1 (mI M1 117 a0 0)))) M x1
set_option maxHeartbeats 4000000 in
set_option maxRecDepth 100000 in
theorem m0_write (l : Launch) (g : CG) (AD : Nat → Prop) (M : Mm) (a0 : Nat) (x1 : Int32) (post : Int32 → Mm → Prop) (hk_a0 : mK M a0 = 1) (hw : w0_write post M a0 x1) : Met l yX0_write (ws_ yX0_write cX0_write 2 (some .boolean)) rm0_write (CPc g AD M [.ref a0, .int x1]) (CQi g AD M post) 0 0 AD := by
  refine Met.ofW (cc := cX0_write) (maxL := 2) (ret := (some .boolean)) (by decide) rfl ?_
  intro p e s m args below meth c s₁ B hml hv
  obtain ⟨rfl, hK, hH, hA⟩ := hv
  have hx := B.exec
  have hb := B.bytes
  have hr : meth.sig.returnType = (some .boolean) := B.returns
  have hts := atoms_spec (ws := ws_ yX0_write cX0_write 2 (some .boolean)) B.pre
  have hts : ∀ w ∈ lw_all, w.before _ s = true := fun w h => hts w (List.mem_cons_of_mem _ h)
  have hown : s.vm.findClass RX0 = some m.cls := findClass_of_methodNamed B.named
  have hlocks : meth.locks = false := B.notSynchronized
  have S : CallFix p m c cX0_write 2 s _ lw_all RX0 := ⟨hx, hb, hml, hown, hts⟩
  have hS : va_S AD s.heap s.heap [] := va_S.rf
  have hE : Ext M M := Ext.rf
  have hl := lv_entry ([.ref a0, .int x1]) (n := 2) (Nat.le_of_ble_eq_true rfl)
  rw [lg_entry_eq]
  generalize (lg_sl ([.ref a0, .int x1]) ++ List.replicate (2 - (lg_sl ([.ref a0, .int x1])).length) Slot.unset).toArray = ls at hl ⊢
  have hl : lv_has ls 2 [(0, .ref a0), (1, .int x1)] := hl
  unfold w0_write at hw
  refine lv_iload_n hx hb dX0_write_0 rfl (lv_at hl 1 rfl) ?_
  refine co_calli (va_runS (As := [.int x1]) (rest := []) S (m0_isLetter l g AD M x1 _ hw) (va_cwS 1 hts (lw_S q400 q401 q54 q402) rfl rfl rfl (by decide +kernel) ⟨Nat.le_of_ble_eq_true rfl, Nat.le_of_ble_eq_true rfl⟩) ⟨co_blind, co_pre hK hH hA hS⟩ rfl rfl hl.1 rfl (lv_room (Nat.le_of_ble_eq_true rfl)) dX0_write_1 ⟨Nat.le_refl _, Nat.le_refl _⟩) hS (fun r2 M1 H locs hw hH hE3 hS => ?_)
  have hk5 := hE3.k hk_a0 (by decide)
  have hE := hE.tr hE3
  refine lv_if_eq (tgt := 22) hx hb dX0_write_4 (by decide) (fun c6 => ?_) (fun c6 => ?_)
  · have hw := hw.1 c6
    refine lv_iload_n hx hb dX0_write_22 rfl (lv_at hl 1 rfl) ?_
    refine lv_bipush (v := 13) hx hb dX0_write_23 (by decide) ?_
    refine lv_icmp_ne (tgt := 38) hx hb dX0_write_25 (by decide) (fun c7 => ?_) (fun c7 => ?_)
    · have hw := hw.2 c7
      refine lv_iload_n hx hb dX0_write_38 rfl (lv_at hl 1 rfl) ?_
      refine lv_bipush (v := 8) hx hb dX0_write_39 (by decide) ?_
      refine lv_icmp_ne (tgt := 54) hx hb dX0_write_41 (by decide) (fun c8 => ?_) (fun c8 => ?_)
      · have hw := hw.2 c8
        refine lv_iconst (v := 0) hx hb dX0_write_54 (by decide) ?_
        exact co_zret S hr hlocks hH hE hS rfl hw dX0_write_55
      · have hw := hw.1 c8
        refine lv_aload_n hx hb dX0_write_44 rfl (lv_at hl 0 rfl) ?_
        have hk9 := hw.1
        have hw := hw.2
        refine co_getr S hK hH 0 26 126 (by decide) ⟨by decide, rfl, rfl, rfl⟩ (Or.inl q287) hk5 (by rw [hk9]; decide) dX0_write_45 ?_
        refine co_callv (va_runV (As := []) (rest := []) S (m5_back l g AD M1 (mP M1 126 a0 0) _ hk9 hw) (cwV 0 hts (lw_V q416 q417 q418 q59 q419) rfl rfl rfl (by decide +kernel) ⟨Nat.le_of_ble_eq_true rfl, Nat.le_of_ble_eq_true rfl⟩) ⟨co_blind, co_recv hK hH (c := 5) (by decide) hk9, co_pre hK hH hA hS⟩ rfl rfl hl.1 rfl (lv_room (Nat.le_of_ble_eq_true rfl)) dX0_write_48 ⟨Nat.le_refl _, Nat.le_refl _⟩) hS (fun M10 H locs hw hH hE12 hS => ?_)
        have hk14 := hE12.k hk5 (by decide)
        have hE := hE.tr hE12
        refine lv_goto (tgt := 56) hx hb dX0_write_51 (by decide) ?_
        refine lv_iconst (v := 1) hx hb dX0_write_56 (by decide) ?_
        exact co_zret S hr hlocks hH hE hS rfl hw dX0_write_57
    · have hw := hw.1 c7
      refine lv_aload_n hx hb dX0_write_28 rfl (lv_at hl 0 rfl) ?_
      have hk15 := hw.1
      have hw := hw.2
      refine co_getr S hK hH 0 26 126 (by decide) ⟨by decide, rfl, rfl, rfl⟩ (Or.inl q287) hk5 (by rw [hk15]; decide) dX0_write_29 ?_
      refine co_callv (va_runV (As := []) (rest := []) S (m5_newLine l g AD M1 (mP M1 126 a0 0) _ hk15 hw) (cwV 0 hts (lw_V q415 q408 q409 q59 q410) rfl rfl rfl (by decide +kernel) ⟨Nat.le_of_ble_eq_true rfl, Nat.le_of_ble_eq_true rfl⟩) ⟨co_blind, co_recv hK hH (c := 5) (by decide) hk15, co_pre hK hH hA hS⟩ rfl rfl hl.1 rfl (lv_room (Nat.le_of_ble_eq_true rfl)) dX0_write_32 ⟨Nat.le_refl _, Nat.le_refl _⟩) hS (fun M16 H locs hw hH hE18 hS => ?_)
      have hk20 := hE18.k hk5 (by decide)
      have hE := hE.tr hE18
      refine lv_goto (tgt := 56) hx hb dX0_write_35 (by decide) ?_
      refine lv_iconst (v := 1) hx hb dX0_write_56 (by decide) ?_
      exact co_zret S hr hlocks hH hE hS rfl hw dX0_write_57
  · have hw := hw.2 c6
    refine lv_aload_n hx hb dX0_write_7 rfl (lv_at hl 0 rfl) ?_
    have hk21 := hw.1
    have hw := hw.2
    refine co_getr S hK hH 0 26 126 (by decide) ⟨by decide, rfl, rfl, rfl⟩ (Or.inl q287) hk5 (by rw [hk21]; decide) dX0_write_8 ?_
    refine lv_iload_n hx hb dX0_write_11 rfl (lv_at hl 1 rfl) ?_
    refine lv_aload_n hx hb dX0_write_12 rfl (lv_at hl 0 rfl) ?_
    refine co_geti S hK hH 0 17 117 (by decide) ⟨by decide, rfl, rfl, rfl⟩ (Or.inl q278) hk5 dX0_write_13 ?_
    refine co_callv (va_runV (As := [.int x1, .int (mI M1 117 a0 0)]) (rest := []) S (m5_letter l g AD M1 (mP M1 126 a0 0) x1 (mI M1 117 a0 0) _ hk21 hw) (cwV 2 hts (lw_V q403 q404 q405 q59 q406) rfl rfl rfl (by decide +kernel) ⟨Nat.le_of_ble_eq_true rfl, Nat.le_of_ble_eq_true rfl⟩) ⟨co_blind, co_recv hK hH (c := 5) (by decide) hk21, co_pre hK hH hA hS⟩ rfl rfl hl.1 rfl (lv_room (Nat.le_of_ble_eq_true rfl)) dX0_write_16 ⟨Nat.le_refl _, Nat.le_refl _⟩) hS (fun M22 H locs hw hH hE24 hS => ?_)
    have hk26 := hE24.k hk5 (by decide)
    have hE := hE.tr hE24
    refine lv_goto (tgt := 56) hx hb dX0_write_19 (by decide) ?_
    refine lv_iconst (v := 1) hx hb dX0_write_56 (by decide) ?_
    exact co_zret S hr hlocks hH hE hS rfl hw dX0_write_57
