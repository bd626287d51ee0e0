/-! FarTypewriter.seen(I)LFarTypewriter$Screen; -/
abbrev rm0_seen : Room := { frames := 3, cells := 0, slots := 0, locals := 244 }
def w0_seen_46 (post : Nat → Mm → Prop)  (M : Mm) (t0 : Int32) (b1 : Nat) : Prop :=
  w0_laid (fun (r5 : Nat) (M4 : Mm) => post r5 M4) M b1 t0
set_option maxHeartbeats 4000000 in
set_option maxRecDepth 100000 in
theorem r0_seen_46 {p : Program} {l : Launch} {e : Env} {s : State} {m : MethodId} {args : Array Value} {below : List Frame} {meth : Method} {c : Code} {g : CG} {AD : Nat → Prop} {M0 : Mm} (S : CallFix p m c cX0_seen 2 s args lw_all RX0) (hr : meth.sig.returnType = (some (.object "FarTypewriter$Screen"))) (hlocks : meth.locks = false) (hK : KC g s) (hA : ∀ q, s.heap.size ≤ q → AD q) {post : Nat → Mm → Prop}  : ∀ (M : Mm) (t0 : Int32) (b1 : Nat), w0_seen_46 post  M t0 b1 → Ext M0 M → mK M b1 = 1 → ∀ (H : Heap) (locs : List Loc), HC g AD M H → va_S AD s.heap H locs → ∀ (ls : Array Slot), lv_has ls 2 [] → W p l e rm0_seen s m args below meth c H locs 0 0 (MQ below (CQr g AD M0 (fun k => k = 6) post) args s 0 0 AD) (F0 m 46 ls [.int t0, .ref b1]) := by
  have hx := S.1
  have hb := S.2.1
  have hown := S.2.2.2.1
  have hts := S.2.2.2.2
  intro M t0 b1 hw hE hk_b1 H locs hH hS ls hl
  unfold w0_seen_46 at hw
  refine co_callr (va_runV (As := [.int t0]) (rest := []) S (m0_laid l g AD M b1 t0 _ hk_b1 hw) (cwV 1 hts (lw_V q532 q534 qs3 q54 q535) rfl rfl rfl (by decide +kernel) ⟨Nat.le_of_ble_eq_true rfl, Nat.le_of_ble_eq_true rfl⟩) ⟨co_blind, co_recv hK hH (c := 0) (by decide) hk_b1, co_pre hK hH hA hS⟩ rfl rfl hl.1 rfl (lv_room (Nat.le_of_ble_eq_true rfl)) dX0_seen_46 ⟨Nat.le_refl _, Nat.le_refl _⟩) hS (fun r5 M4 H locs hw hH hE6 hk7 hS => ?_)
  have hE := hE.tr hE6
  have hk7 : mK M4 r5 = 6 := hk7
  exact co_aret S hr hlocks hH hE hS hk7 hw dX0_seen_49
def w0_seen (post : Nat → Mm → Prop) (M : Mm) (a0 : Nat) (x1 : Int32) : Prop :=
  (x1 = 0 → mK M (mP M 114 a0 0) = 4 ∧ (w3_newest (fun (r11 : Nat) (M10 : Mm) => mK M10 (mP M10 500 r11 0) = 6 ∧ (post (mP M10 500 r11 0) M10)) M (mP M 114 a0 0))) ∧ (¬ x1 = 0 → (x1 = 1 → mK M (mP M 126 a0 0) = 6 ∧ (post (mP M 126 a0 0) M)) ∧ (¬ x1 = 1 → (x1 = 2 → w0_seen_46 post M (mI M 130 a0 0) a0) ∧ (¬ x1 = 2 → w0_seen_46 post M (mI M 129 a0 0) a0)))
set_option maxHeartbeats 4000000 in
set_option maxRecDepth 100000 in
theorem m0_seen (l : Launch) (g : CG) (AD : Nat → Prop) (M : Mm) (a0 : Nat) (x1 : Int32) (post : Nat → Mm → Prop) (hk_a0 : mK M a0 = 1) (hw : w0_seen post M a0 x1) : Met l yX0_seen (ws_ yX0_seen cX0_seen 2 (some (.object "FarTypewriter$Screen"))) rm0_seen (CPc g AD M [.ref a0, .int x1]) (CQr g AD M (fun k => k = 6) post) 0 0 AD := by
  refine Met.ofW (cc := cX0_seen) (maxL := 2) (ret := (some (.object "FarTypewriter$Screen"))) (by decide) rfl ?_
  intro p e s m args below meth c s₁ B hml hv
  obtain ⟨rfl, hK, hH, hA⟩ := hv
  have hx := B.exec
  have hb := B.bytes
  have hr : meth.sig.returnType = (some (.object "FarTypewriter$Screen")) := B.returns
  have hts := atoms_spec (ws := ws_ yX0_seen cX0_seen 2 (some (.object "FarTypewriter$Screen"))) B.pre
  have hts : ∀ w ∈ lw_all, w.before _ s = true := fun w h => hts w (List.mem_cons_of_mem _ h)
  have hown : s.vm.findClass RX0 = some m.cls := findClass_of_methodNamed B.named
  have hlocks : meth.locks = false := B.notSynchronized
  have S : CallFix p m c cX0_seen 2 s _ lw_all RX0 := ⟨hx, hb, hml, hown, hts⟩
  have hS : va_S AD s.heap s.heap [] := va_S.rf
  have hE : Ext M M := Ext.rf
  have hl := lv_entry ([.ref a0, .int x1]) (n := 2) (Nat.le_of_ble_eq_true rfl)
  rw [lg_entry_eq]
  generalize (lg_sl ([.ref a0, .int x1]) ++ List.replicate (2 - (lg_sl ([.ref a0, .int x1])).length) Slot.unset).toArray = ls at hl ⊢
  have hl : lv_has ls 2 [(0, .ref a0), (1, .int x1)] := hl
  unfold w0_seen at hw
  refine lv_iload_n hx hb dX0_seen_0 rfl (lv_at hl 1 rfl) ?_
  refine lv_if_ne (tgt := 17) hx hb dX0_seen_1 (by decide) (fun c1 => ?_) (fun c1 => ?_)
  · have hw := hw.2 c1
    refine lv_iload_n hx hb dX0_seen_17 rfl (lv_at hl 1 rfl) ?_
    refine lv_iconst (v := 1) hx hb dX0_seen_18 (by decide) ?_
    refine lv_icmp_ne (tgt := 29) hx hb dX0_seen_19 (by decide) (fun c2 => ?_) (fun c2 => ?_)
    · have hw := hw.2 c2
      refine lv_aload_n hx hb dX0_seen_29 rfl (lv_at hl 0 rfl) ?_
      refine lv_iload_n hx hb dX0_seen_30 rfl (lv_at hl 1 rfl) ?_
      refine lv_iconst (v := 2) hx hb dX0_seen_31 (by decide) ?_
      refine lv_icmp_ne (tgt := 42) hx hb dX0_seen_32 (by decide) (fun c3 => ?_) (fun c3 => ?_)
      · have hw := hw.2 c3
        refine lv_aload_n hx hb dX0_seen_42 rfl (lv_at hl 0 rfl) ?_
        refine co_geti S hK hH 0 29 129 (by decide) ⟨by decide, rfl, rfl, rfl⟩ (Or.inl q290) hk_a0 dX0_seen_43 ?_
        exact r0_seen_46 S hr hlocks hK hA  _ _ _ hw hE hk_a0 _ _ hH hS _ (lv_sub hl [] rfl)
      · have hw := hw.1 c3
        refine lv_aload_n hx hb dX0_seen_35 rfl (lv_at hl 0 rfl) ?_
        refine co_geti S hK hH 0 30 130 (by decide) ⟨by decide, rfl, rfl, rfl⟩ (Or.inl q291) hk_a0 dX0_seen_36 ?_
        refine lv_goto (tgt := 46) hx hb dX0_seen_39 (by decide) ?_
        exact r0_seen_46 S hr hlocks hK hA  _ _ _ hw hE hk_a0 _ _ hH hS _ (lv_sub hl [] rfl)
    · have hw := hw.1 c2
      refine lv_aload_n hx hb dX0_seen_22 rfl (lv_at hl 0 rfl) ?_
      have hk8 := hw.1
      have hw := hw.2
      refine co_getr S hK hH 0 26 126 (by decide) ⟨by decide, rfl, rfl, rfl⟩ (Or.inl q287) hk_a0 (by rw [hk8]; decide) dX0_seen_23 ?_
      refine lv_goto (tgt := 49) hx hb dX0_seen_26 (by decide) ?_
      exact co_aret S hr hlocks hH hE hS hk8 hw dX0_seen_49
  · have hw := hw.1 c1
    refine lv_aload_n hx hb dX0_seen_4 rfl (lv_at hl 0 rfl) ?_
    have hk9 := hw.1
    have hw := hw.2
    refine co_getr S hK hH 0 14 114 (by decide) ⟨by decide, rfl, rfl, rfl⟩ (Or.inl q275) hk_a0 (by rw [hk9]; decide) dX0_seen_5 ?_
    refine co_callr (va_runV (As := []) (rest := []) S (m3_newest l g AD M (mP M 114 a0 0) _ hk9 hw) (cwV 0 hts (lw_V q536 q258 q259 q57 q260) rfl rfl rfl (by decide +kernel) ⟨Nat.le_of_ble_eq_true rfl, Nat.le_of_ble_eq_true rfl⟩) ⟨co_blind, co_recv hK hH (c := 3) (by decide) hk9, co_pre hK hH hA hS⟩ rfl rfl hl.1 rfl (lv_room (Nat.le_of_ble_eq_true rfl)) dX0_seen_8 ⟨Nat.le_refl _, Nat.le_refl _⟩) hS (fun r11 M10 H locs hw hH hE12 hk13 hS => ?_)
    have hk14 := hE12.k hk_a0 (by decide)
    have hE := hE.tr hE12
    have hk13 : mK M10 r11 = 5 := hk13
    have hk15 := hw.1
    have hw := hw.2
    refine co_getr S hK hH 4 0 500 (by decide) ⟨by decide, rfl, rfl, rfl⟩ (Or.inr ⟨_, q172⟩) hk13 (by rw [hk15]; decide) dX0_seen_11 ?_
    refine lv_goto (tgt := 49) hx hb dX0_seen_14 (by decide) ?_
    exact co_aret S hr hlocks hH hE hS hk15 hw dX0_seen_49
/-! FarTypewriter.cursor(II)I -/
abbrev rm0_cursor : Room := { frames := 4, cells := 0, slots := 0, locals := 265 }
def w0_cursor (post : Int32 → Mm → Prop) (M : Mm) (a0 : Nat) (x1 : Int32) (x2 : Int32) : Prop :=
  (x1 < 0 → post (-1) M) ∧ (¬ x1 < 0 → (3 < x1 → post (-1) M) ∧ (¬ 3 < x1 → (x2 < 0 → post (-1) M) ∧ (¬ x2 < 0 → (x2 ≤ 1 → (x2 = 0 → w0_seen (fun (r12 : Nat) (M11 : Mm) => post (mI M11 602 r12 0) M11) M a0 x1) ∧ (¬ x2 = 0 → w0_seen (fun (r7 : Nat) (M6 : Mm) => post (mI M6 603 r7 0) M6) M a0 x1)) ∧ (¬ x2 ≤ 1 → post (-1) M))))
set_option maxHeartbeats 4000000 in
set_option maxRecDepth 100000 in
theorem m0_cursor (l : Launch) (g : CG) (AD : Nat → Prop) (M : Mm) (a0 : Nat) (x1 : Int32) (x2 : Int32) (post : Int32 → Mm → Prop) (hk_a0 : mK M a0 = 1) (hw : w0_cursor post M a0 x1 x2) : Met l yX0_cursor (ws_ yX0_cursor cX0_cursor 3 (some .int)) rm0_cursor (CPc g AD M [.ref a0, .int x1, .int x2]) (CQi g AD M post) 0 0 AD := by
  refine Met.ofW (cc := cX0_cursor) (maxL := 3) (ret := (some .int)) (by decide) rfl ?_
  intro p e s m args below meth c s₁ B hml hv
  obtain ⟨rfl, hK, hH, hA⟩ := hv
  have hx := B.exec
  have hb := B.bytes
  have hr : meth.sig.returnType = (some .int) := B.returns
  have hts := atoms_spec (ws := ws_ yX0_cursor cX0_cursor 3 (some .int)) B.pre
  have hts : ∀ w ∈ lw_all, w.before _ s = true := fun w h => hts w (List.mem_cons_of_mem _ h)
  have hown : s.vm.findClass RX0 = some m.cls := findClass_of_methodNamed B.named
  have hlocks : meth.locks = false := B.notSynchronized
  have S : CallFix p m c cX0_cursor 3 s _ lw_all RX0 := ⟨hx, hb, hml, hown, hts⟩
  have hS : va_S AD s.heap s.heap [] := va_S.rf
  have hE : Ext M M := Ext.rf
  have hl := lv_entry ([.ref a0, .int x1, .int x2]) (n := 3) (Nat.le_of_ble_eq_true rfl)
  rw [lg_entry_eq]
  generalize (lg_sl ([.ref a0, .int x1, .int x2]) ++ List.replicate (3 - (lg_sl ([.ref a0, .int x1, .int x2])).length) Slot.unset).toArray = ls at hl ⊢
  have hl : lv_has ls 3 [(0, .ref a0), (1, .int x1), (2, .int x2)] := hl
  unfold w0_cursor at hw
  refine lv_iload_n hx hb dX0_cursor_0 rfl (lv_at hl 1 rfl) ?_
  refine lv_if_lt (tgt := 18) hx hb dX0_cursor_1 (by decide) (fun c1 => ?_) (fun c1 => ?_)
  · have hw := hw.1 c1
    refine lv_iconst (v := (-1)) hx hb dX0_cursor_18 (by decide) ?_
    exact co_iret S hr hlocks hH hE hS hw dX0_cursor_19
  · have hw := hw.2 c1
    refine lv_iload_n hx hb dX0_cursor_4 rfl (lv_at hl 1 rfl) ?_
    refine lv_iconst (v := 3) hx hb dX0_cursor_5 (by decide) ?_
    refine lv_icmp_gt (tgt := 18) hx hb dX0_cursor_6 (by decide) (fun c2 => ?_) (fun c2 => ?_)
    · have hw := hw.1 c2
      refine lv_iconst (v := (-1)) hx hb dX0_cursor_18 (by decide) ?_
      exact co_iret S hr hlocks hH hE hS hw dX0_cursor_19
    · have hw := hw.2 c2
      refine lv_iload_n hx hb dX0_cursor_9 rfl (lv_at hl 2 rfl) ?_
      refine lv_if_lt (tgt := 18) hx hb dX0_cursor_10 (by decide) (fun c3 => ?_) (fun c3 => ?_)
      · have hw := hw.1 c3
        refine lv_iconst (v := (-1)) hx hb dX0_cursor_18 (by decide) ?_
        exact co_iret S hr hlocks hH hE hS hw dX0_cursor_19
      · have hw := hw.2 c3
        refine lv_iload_n hx hb dX0_cursor_13 rfl (lv_at hl 2 rfl) ?_
        refine lv_iconst (v := 1) hx hb dX0_cursor_14 (by decide) ?_
        refine lv_icmp_le (tgt := 20) hx hb dX0_cursor_15 (by decide) (fun c4 => ?_) (fun c4 => ?_)
        · have hw := hw.1 c4
          refine lv_iload_n hx hb dX0_cursor_20 rfl (lv_at hl 2 rfl) ?_
          refine lv_if_ne (tgt := 35) hx hb dX0_cursor_21 (by decide) (fun c5 => ?_) (fun c5 => ?_)
          · have hw := hw.2 c5
            refine lv_aload_n hx hb dX0_cursor_35 rfl (lv_at hl 0 rfl) ?_
            refine lv_iload_n hx hb dX0_cursor_36 rfl (lv_at hl 1 rfl) ?_
            refine co_callr (va_runV (As := [.int x1]) (rest := []) S (m0_seen l g AD M a0 x1 _ hk_a0 hw) (cwV 1 hts (lw_V q722 q724 qs14 q54 q725) rfl rfl rfl (by decide +kernel) ⟨Nat.le_of_ble_eq_true rfl, Nat.le_of_ble_eq_true rfl⟩) ⟨co_blind, co_recv hK hH (c := 0) (by decide) hk_a0, co_pre hK hH hA hS⟩ rfl rfl hl.1 rfl (lv_room (Nat.le_of_ble_eq_true rfl)) dX0_cursor_37 ⟨Nat.le_refl _, Nat.le_refl _⟩) hS (fun r7 M6 H locs hw hH hE8 hk9 hS => ?_)
            have hk10 := hE8.k hk_a0 (by decide)
            have hE := hE.tr hE8
            have hk9 : mK M6 r7 = 6 := hk9
            refine co_geti S hK hH 5 3 603 (by decide) ⟨by decide, rfl, rfl, rfl⟩ (Or.inr ⟨_, q161⟩) hk9 dX0_cursor_40 ?_
            exact co_iret S hr hlocks hH hE hS hw dX0_cursor_43
          · have hw := hw.1 c5
            refine lv_aload_n hx hb dX0_cursor_24 rfl (lv_at hl 0 rfl) ?_
            refine lv_iload_n hx hb dX0_cursor_25 rfl (lv_at hl 1 rfl) ?_
            refine co_callr (va_runV (As := [.int x1]) (rest := []) S (m0_seen l g AD M a0 x1 _ hk_a0 hw) (cwV 1 hts (lw_V q722 q724 qs14 q54 q725) rfl rfl rfl (by decide +kernel) ⟨Nat.le_of_ble_eq_true rfl, Nat.le_of_ble_eq_true rfl⟩) ⟨co_blind, co_recv hK hH (c := 0) (by decide) hk_a0, co_pre hK hH hA hS⟩ rfl rfl hl.1 rfl (lv_room (Nat.le_of_ble_eq_true rfl)) dX0_cursor_26 ⟨Nat.le_refl _, Nat.le_refl _⟩) hS (fun r12 M11 H locs hw hH hE13 hk14 hS => ?_)
            have hk15 := hE13.k hk_a0 (by decide)
            have hE := hE.tr hE13
            have hk14 : mK M11 r12 = 6 := hk14
            refine co_geti S hK hH 5 2 602 (by decide) ⟨by decide, rfl, rfl, rfl⟩ (Or.inr ⟨_, q156⟩) hk14 dX0_cursor_29 ?_
            refine lv_goto (tgt := 43) hx hb dX0_cursor_32 (by decide) ?_
            exact co_iret S hr hlocks hH hE hS hw dX0_cursor_43
        · have hw := hw.2 c4
          refine lv_iconst (v := (-1)) hx hb dX0_cursor_18 (by decide) ?_
          exact co_iret S hr hlocks hH hE hS hw dX0_cursor_19
/-! FarTypewriter.differs(LFarTypewriter$Screen;LFarTypewriter$Screen;)V -/
abbrev rm0_differs : Room := { frames := 4, cells := 0, slots := 0, locals := 254 }
def w0_differs_48 (post : Mm → Prop) (kb : Mm → Nat → Nat → Nat → Int32 → Int32 → Int32 → Prop) (M : Mm) (a0 : Nat) (a1 : Nat) (a2 : Nat) (x3 : Int32) (x4 : Int32) (x5 : Int32) : Prop :=
  kb M a0 a1 a2 x3 x4 (x5 + 1)
set_option maxHeartbeats 4000000 in
set_option maxRecDepth 100000 in
theorem r0_differs_48 {p : Program} {l : Launch} {e : Env} {s : State} {m : MethodId} {args : Array Value} {below : List Frame} {meth : Method} {c : Code} {g : CG} {AD : Nat → Prop} {M0 : Mm} (S : CallFix p m c cX0_differs 7 s args lw_all RX0) (hr : meth.sig.returnType = none) (hlocks : meth.locks = false) (hK : KC g s) (hA : ∀ q, s.heap.size ≤ q → AD q) {post : Mm → Prop} {kb : Mm → Nat → Nat → Nat → Int32 → Int32 → Int32 → Prop} (hkb : ∀ (M : Mm) (a0 : Nat) (a1 : Nat) (a2 : Nat) (x3 : Int32) (x4 : Int32) (x5 : Int32), kb M a0 a1 a2 x3 x4 x5 → Ext M0 M → mK M a0 = 1 → mK M a1 = 6 → mK M a2 = 6 → ∀ (H : Heap) (locs : List Loc), HC g AD M H → va_S AD s.heap H locs → ∀ (ls : Array Slot), lv_has ls 7 [(0, .ref a0), (1, .ref a1), (2, .ref a2), (3, .int x3), (4, .int x4), (5, .int x5)] → W p l e rm0_differs s m args below meth c H locs 0 0 (MQ below (CQv g AD M0 post) args s 0 0 AD) (F0 m 8 ls [])) : ∀ (M : Mm) (a0 : Nat) (a1 : Nat) (a2 : Nat) (x3 : Int32) (x4 : Int32) (x5 : Int32), w0_differs_48 post kb M a0 a1 a2 x3 x4 x5 → Ext M0 M → mK M a0 = 1 → mK M a1 = 6 → mK M a2 = 6 → ∀ (H : Heap) (locs : List Loc), HC g AD M H → va_S AD s.heap H locs → ∀ (ls : Array Slot), lv_has ls 7 [(0, .ref a0), (1, .ref a1), (2, .ref a2), (3, .int x3), (4, .int x4), (5, .int x5)] → W p l e rm0_differs s m args below meth c H locs 0 0 (MQ below (CQv g AD M0 post) args s 0 0 AD) (F0 m 48 ls []) := by
  have hx := S.1
  have hb := S.2.1
  have hown := S.2.2.2.1
  have hts := S.2.2.2.2
  intro M a0 a1 a2 x3 x4 x5 hw hE hk_a0 hk_a1 hk_a2 H locs hH hS ls hl
  unfold w0_differs_48 at hw
  refine lv_iinc (v := x5 + 1) (lv' := [(5, .int (x5 + 1)), (0, .ref a0), (1, .ref a1), (2, .ref a2), (3, .int x3), (4, .int x4)]) hx hb dX0_differs_48 hl (k := 5) rfl rfl (by decide) rfl (fun ls hl => ?_)
  refine lv_goto (tgt := 8) hx hb dX0_differs_51 (by decide) ?_
  exact hkb _ _ _ _ _ _ _ hw hE hk_a0 hk_a1 hk_a2 _ _ hH hS _ (lv_sub hl [1, 2, 3, 4, 5, 0] rfl)
def w0_differs_41 (post : Mm → Prop) (kb : Mm → Nat → Nat → Nat → Int32 → Int32 → Int32 → Prop) (M : Mm) (a0 : Nat) (a1 : Nat) (a2 : Nat) (x5 : Int32) (x6 : Int32) : Prop :=
  w0_differs_48 post kb M a0 a1 a2 x5 x6 x5
set_option maxHeartbeats 4000000 in
set_option maxRecDepth 100000 in
theorem r0_differs_41 {p : Program} {l : Launch} {e : Env} {s : State} {m : MethodId} {args : Array Value} {below : List Frame} {meth : Method} {c : Code} {g : CG} {AD : Nat → Prop} {M0 : Mm} (S : CallFix p m c cX0_differs 7 s args lw_all RX0) (hr : meth.sig.returnType = none) (hlocks : meth.locks = false) (hK : KC g s) (hA : ∀ q, s.heap.size ≤ q → AD q) {post : Mm → Prop} {kb : Mm → Nat → Nat → Nat → Int32 → Int32 → Int32 → Prop} (hkb : ∀ (M : Mm) (a0 : Nat) (a1 : Nat) (a2 : Nat) (x3 : Int32) (x4 : Int32) (x5 : Int32), kb M a0 a1 a2 x3 x4 x5 → Ext M0 M → mK M a0 = 1 → mK M a1 = 6 → mK M a2 = 6 → ∀ (H : Heap) (locs : List Loc), HC g AD M H → va_S AD s.heap H locs → ∀ (ls : Array Slot), lv_has ls 7 [(0, .ref a0), (1, .ref a1), (2, .ref a2), (3, .int x3), (4, .int x4), (5, .int x5)] → W p l e rm0_differs s m args below meth c H locs 0 0 (MQ below (CQv g AD M0 post) args s 0 0 AD) (F0 m 8 ls [])) : ∀ (M : Mm) (a0 : Nat) (a1 : Nat) (a2 : Nat) (x5 : Int32) (x6 : Int32), w0_differs_41 post kb M a0 a1 a2 x5 x6 → Ext M0 M → mK M a0 = 1 → mK M a1 = 6 → mK M a2 = 6 → ∀ (H : Heap) (locs : List Loc), HC g AD M H → va_S AD s.heap H locs → ∀ (ls : Array Slot), lv_has ls 7 [(0, .ref a0), (1, .ref a1), (2, .ref a2), (5, .int x5), (6, .int x6)] → W p l e rm0_differs s m args below meth c H locs 0 0 (MQ below (CQv g AD M0 post) args s 0 0 AD) (F0 m 41 ls []) := by
  have hx := S.1
  have hb := S.2.1
  have hown := S.2.2.2.1
  have hts := S.2.2.2.2
  intro M a0 a1 a2 x5 x6 hw hE hk_a0 hk_a1 hk_a2 H locs hH hS ls hl
  unfold w0_differs_41 at hw
  refine lv_iload hx hb dX0_differs_41 (lv_at hl 3 rfl) ?_
  refine lv_istore_n (lv' := [(3, .int x5), (0, .ref a0), (1, .ref a1), (2, .ref a2), (5, .int x5), (6, .int x6)]) hx hb dX0_differs_43 rfl hl (by decide) rfl (fun ls hl => ?_)
  refine lv_iload hx hb dX0_differs_44 (lv_at hl 5 rfl) ?_
  refine lv_istore (lv' := [(4, .int x6), (3, .int x5), (0, .ref a0), (1, .ref a1), (2, .ref a2), (5, .int x5), (6, .int x6)]) hx hb dX0_differs_46 hl (by decide) rfl (fun ls hl => ?_)
  exact r0_differs_48 S hr hlocks hK hA hkb _ _ _ _ _ _ _ hw hE hk_a0 hk_a1 hk_a2 _ _ hH hS _ (lv_sub hl [2, 3, 4, 1, 0, 5] rfl)
def b0_differs_8 (post : Mm → Prop)  (kb : Mm → Nat → Nat → Nat → Int32 → Int32 → Int32 → Prop) (M : Mm) (a0 : Nat) (a1 : Nat) (a2 : Nat) (x3 : Int32) (x4 : Int32) (x5 : Int32) : Prop :=
  (8 < x5 → w0_bytes (fun (r3 : Int32) (M2 : Mm) => post M2) M a0 a1 a2 x3 1) ∧ (¬ 8 < x5 → w0_bytes (fun (r10 : Int32) (M9 : Mm) => (x3 = (-1) → w0_differs_41 post kb M9 a0 a1 a2 x5 r10) ∧ (¬ x3 = (-1) → (r10 < x4 → w0_differs_41 post kb M9 a0 a1 a2 x5 r10) ∧ (¬ r10 < x4 → w0_differs_48 post kb M9 a0 a1 a2 x3 x4 x5))) M a0 a1 a2 x5 0)
def w0_differs_8 (post : Mm → Prop)  : Nat → Mm → Nat → Nat → Nat → Int32 → Int32 → Int32 → Prop
  | 0 => fun _ _ _ _ _ _ _ => False
  | n + 1 => b0_differs_8 post  (w0_differs_8 post  n)
set_option maxHeartbeats 4000000 in
set_option maxRecDepth 100000 in
theorem r0_differs_8 {p : Program} {l : Launch} {e : Env} {s : State} {m : MethodId} {args : Array Value} {below : List Frame} {meth : Method} {c : Code} {g : CG} {AD : Nat → Prop} {M0 : Mm} (S : CallFix p m c cX0_differs 7 s args lw_all RX0) (hr : meth.sig.returnType = none) (hlocks : meth.locks = false) (hK : KC g s) (hA : ∀ q, s.heap.size ≤ q → AD q) {post : Mm → Prop}  : ∀ n : Nat, ∀ (M : Mm) (a0 : Nat) (a1 : Nat) (a2 : Nat) (x3 : Int32) (x4 : Int32) (x5 : Int32), w0_differs_8 post  n M a0 a1 a2 x3 x4 x5 → Ext M0 M → mK M a0 = 1 → mK M a1 = 6 → mK M a2 = 6 → ∀ (H : Heap) (locs : List Loc), HC g AD M H → va_S AD s.heap H locs → ∀ (ls : Array Slot), lv_has ls 7 [(0, .ref a0), (1, .ref a1), (2, .ref a2), (3, .int x3), (4, .int x4), (5, .int x5)] → W p l e rm0_differs s m args below meth c H locs 0 0 (MQ below (CQv g AD M0 post) args s 0 0 AD) (F0 m 8 ls []) := by
  have hx := S.1
  have hb := S.2.1
  have hown := S.2.2.2.1
  have hts := S.2.2.2.2
  intro n
  induction n with
  | zero =>
    intro M a0 a1 a2 x3 x4 x5 hw
    exact hw.elim
  | succ n hkb =>
    intro M a0 a1 a2 x3 x4 x5 hw hE hk_a0 hk_a1 hk_a2 H locs hH hS ls hl
    unfold w0_differs_8 b0_differs_8 at hw
    refine lv_iload hx hb dX0_differs_8 (lv_at hl 5 rfl) ?_
    refine lv_bipush (v := 8) hx hb dX0_differs_10 (by decide) ?_
    refine lv_icmp_gt (tgt := 54) hx hb dX0_differs_12 (by decide) (fun c1 => ?_) (fun c1 => ?_)
    · have hw := hw.1 c1
      refine lv_aload_n hx hb dX0_differs_54 rfl (lv_at hl 0 rfl) ?_
      refine lv_aload_n hx hb dX0_differs_55 rfl (lv_at hl 1 rfl) ?_
      refine lv_aload_n hx hb dX0_differs_56 rfl (lv_at hl 2 rfl) ?_
      refine lv_iload_n hx hb dX0_differs_57 rfl (lv_at hl 3 rfl) ?_
      refine lv_iconst (v := 1) hx hb dX0_differs_58 (by decide) ?_
      refine co_calli (va_runV (As := [.ref a1, .ref a2, .int x3, .int 1]) (rest := []) S (m0_bytes l g AD M a0 a1 a2 x3 1 _ hk_a0 hk_a1 hk_a2 hw) (cwV 4 hts (lw_V q582 q584 qs6 q54 q585) rfl rfl rfl (by decide +kernel) ⟨Nat.le_of_ble_eq_true rfl, Nat.le_of_ble_eq_true rfl⟩) ⟨co_blind, co_recv hK hH (c := 0) (by decide) hk_a0, co_pre hK hH hA hS⟩ rfl rfl hl.1 rfl (lv_room (Nat.le_of_ble_eq_true rfl)) dX0_differs_59 ⟨Nat.le_refl _, Nat.le_refl _⟩) hS (fun r3 M2 H locs hw hH hE4 hS => ?_)
      have hk6 := hE4.k hk_a0 (by decide)
      have hk7 := hE4.k hk_a1 (by decide)
      have hk8 := hE4.k hk_a2 (by decide)
      have hE := hE.tr hE4
      refine lv_pop hx hb dX0_differs_62 rfl ?_
      exact co_vret S hr hlocks hH hE hS hw dX0_differs_63
    · have hw := hw.2 c1
      refine lv_aload_n hx hb dX0_differs_15 rfl (lv_at hl 0 rfl) ?_
      refine lv_aload_n hx hb dX0_differs_16 rfl (lv_at hl 1 rfl) ?_
      refine lv_aload_n hx hb dX0_differs_17 rfl (lv_at hl 2 rfl) ?_
      refine lv_iload hx hb dX0_differs_18 (lv_at hl 5 rfl) ?_
      refine lv_iconst (v := 0) hx hb dX0_differs_20 (by decide) ?_
      refine co_calli (va_runV (As := [.ref a1, .ref a2, .int x5, .int 0]) (rest := []) S (m0_bytes l g AD M a0 a1 a2 x5 0 _ hk_a0 hk_a1 hk_a2 hw) (cwV 4 hts (lw_V q582 q584 qs6 q54 q585) rfl rfl rfl (by decide +kernel) ⟨Nat.le_of_ble_eq_true rfl, Nat.le_of_ble_eq_true rfl⟩) ⟨co_blind, co_recv hK hH (c := 0) (by decide) hk_a0, co_pre hK hH hA hS⟩ rfl rfl hl.1 rfl (lv_room (Nat.le_of_ble_eq_true rfl)) dX0_differs_21 ⟨Nat.le_refl _, Nat.le_refl _⟩) hS (fun r10 M9 H locs hw hH hE11 hS => ?_)
      have hk13 := hE11.k hk_a0 (by decide)
      have hk14 := hE11.k hk_a1 (by decide)
      have hk15 := hE11.k hk_a2 (by decide)
      have hE := hE.tr hE11
      refine lv_istore (lv' := [(6, .int r10), (0, .ref a0), (1, .ref a1), (2, .ref a2), (3, .int x3), (4, .int x4), (5, .int x5)]) hx hb dX0_differs_24 hl (by decide) rfl (fun ls hl => ?_)
      refine lv_iload_n hx hb dX0_differs_26 rfl (lv_at hl 4 rfl) ?_
      refine lv_iconst (v := (-1)) hx hb dX0_differs_27 (by decide) ?_
      refine lv_icmp_eq (tgt := 41) hx hb dX0_differs_28 (by decide) (fun c16 => ?_) (fun c16 => ?_)
      · have hw := hw.1 c16
        exact r0_differs_41 S hr hlocks hK hA hkb _ _ _ _ _ _ hw hE hk13 hk14 hk15 _ _ hH hS _ (lv_sub hl [1, 2, 3, 6, 0] rfl)
      · have hw := hw.2 c16
        refine lv_iload hx hb dX0_differs_31 (lv_at hl 0 rfl) ?_
        refine lv_iload hx hb dX0_differs_33 (lv_at hl 5 rfl) ?_
        refine lv_icmp_lt (tgt := 41) hx hb dX0_differs_35 (by decide) (fun c17 => ?_) (fun c17 => ?_)
        · have hw := hw.1 c17
          exact r0_differs_41 S hr hlocks hK hA hkb _ _ _ _ _ _ hw hE hk13 hk14 hk15 _ _ hH hS _ (lv_sub hl [1, 2, 3, 6, 0] rfl)
        · have hw := hw.2 c17
          refine lv_goto (tgt := 48) hx hb dX0_differs_38 (by decide) ?_
          exact r0_differs_48 S hr hlocks hK hA hkb _ _ _ _ _ _ _ hw hE hk13 hk14 hk15 _ _ hH hS _ (lv_sub hl [1, 2, 3, 4, 5, 6] rfl)
def w0_differs (post : Mm → Prop) (M : Mm) (a0 : Nat) (a1 : Nat) (a2 : Nat) : Prop :=
  ∃ n, w0_differs_8 post  n M a0 a1 a2 (-1) 0 0
set_option maxHeartbeats 4000000 in
set_option maxRecDepth 100000 in
theorem m0_differs (l : Launch) (g : CG) (AD : Nat → Prop) (M : Mm) (a0 : Nat) (a1 : Nat) (a2 : Nat) (post : Mm → Prop) (hk_a0 : mK M a0 = 1) (hk_a1 : mK M a1 = 6) (hk_a2 : mK M a2 = 6) (hw : w0_differs post M a0 a1 a2) : Met l yX0_differs (ws_ yX0_differs cX0_differs 7 none) rm0_differs (CPc g AD M [.ref a0, .ref a1, .ref a2]) (CQv g AD M post) 0 0 AD := by
  refine Met.ofW (cc := cX0_differs) (maxL := 7) (ret := none) (by decide) rfl ?_
  intro p e s m args below meth c s₁ B hml hv
  obtain ⟨rfl, hK, hH, hA⟩ := hv
  have hx := B.exec
  have hb := B.bytes
  have hr : meth.sig.returnType = none := B.returns
  have hts := atoms_spec (ws := ws_ yX0_differs cX0_differs 7 none) B.pre
  have hts : ∀ w ∈ lw_all, w.before _ s = true := fun w h => hts w (List.mem_cons_of_mem _ h)
  have hown : s.vm.findClass RX0 = some m.cls := findClass_of_methodNamed B.named
  have hlocks : meth.locks = false := B.notSynchronized
  have S : CallFix p m c cX0_differs 7 s _ lw_all RX0 := ⟨hx, hb, hml, hown, hts⟩
  have hS : va_S AD s.heap s.heap [] := va_S.rf
  have hE : Ext M M := Ext.rf
  have hl := lv_entry ([.ref a0, .ref a1, .ref a2]) (n := 7) (Nat.le_of_ble_eq_true rfl)
  rw [lg_entry_eq]
  generalize (lg_sl ([.ref a0, .ref a1, .ref a2]) ++ List.replicate (7 - (lg_sl ([.ref a0, .ref a1, .ref a2])).length) Slot.unset).toArray = ls at hl ⊢
  have hl : lv_has ls 7 [(0, .ref a0), (1, .ref a1), (2, .ref a2)] := hl
  unfold w0_differs at hw
  refine lv_iconst (v := (-1)) hx hb dX0_differs_0 (by decide) ?_
  refine lv_istore_n (lv' := [(3, .int (-1)), (0, .ref a0), (1, .ref a1), (2, .ref a2)]) hx hb dX0_differs_1 rfl hl (by decide) rfl (fun ls hl => ?_)
  refine lv_iconst (v := 0) hx hb dX0_differs_2 (by decide) ?_
  refine lv_istore (lv' := [(4, .int 0), (3, .int (-1)), (0, .ref a0), (1, .ref a1), (2, .ref a2)]) hx hb dX0_differs_3 hl (by decide) rfl (fun ls hl => ?_)
  refine lv_iconst (v := 0) hx hb dX0_differs_5 (by decide) ?_
  refine lv_istore (lv' := [(5, .int 0), (4, .int 0), (3, .int (-1)), (0, .ref a0), (1, .ref a1), (2, .ref a2)]) hx hb dX0_differs_6 hl (by decide) rfl (fun ls hl => ?_)
  obtain ⟨n, hw⟩ := hw
  refine r0_differs_8 S hr hlocks hK hA  n _ _ _ _ _ _ _ hw hE hk_a0 hk_a1 hk_a2 _ _ hH hS _ (lv_sub hl [3, 4, 5, 2, 1, 0] rfl)
/-! FarTypewriter.guess(I)V -/
abbrev rm0_guess : Room := { frames := 3, cells := 0, slots := 0, locals := 244 }
def w0_guess_27 (post : Mm → Prop)  (M : Mm) (a0 : Nat) : Prop :=
  ∀ M8 : Mm, M8 = sI M 129 a0 0 ((mI M 129 a0 0) + 1) → (post M8)
set_option maxHeartbeats 4000000 in
set_option maxRecDepth 100000 in
theorem r0_guess_27 {p : Program} {l : Launch} {e : Env} {s : State} {m : MethodId} {args : Array Value} {below : List Frame} {meth : Method} {c : Code} {g : CG} {AD : Nat → Prop} {M0 : Mm} (S : CallFix p m c cX0_guess 6 s args lw_all RX0) (hr : meth.sig.returnType = none) (hlocks : meth.locks = false) (hK : KC g s) (hA : ∀ q, s.heap.size ≤ q → AD q) {post : Mm → Prop}  : ∀ (M : Mm) (a0 : Nat), w0_guess_27 post  M a0 → Ext M0 M → mK M a0 = 1 → ∀ (H : Heap) (locs : List Loc), HC g AD M H → va_S AD s.heap H locs → ∀ (ls : Array Slot), lv_has ls 6 [(0, .ref a0)] → W p l e rm0_guess s m args below meth c H locs 0 0 (MQ below (CQv g AD M0 post) args s 0 0 AD) (F0 m 27 ls []) := by
  have hx := S.1
  have hb := S.2.1
  have hown := S.2.2.2.1
  have hts := S.2.2.2.2
  intro M a0 hw hE hk_a0 H locs hH hS ls hl
  unfold w0_guess_27 at hw
  refine lv_aload_n hx hb dX0_guess_27 rfl (lv_at hl 0 rfl) ?_
  refine lv_dup hx hb dX0_guess_28 rfl ?_
  refine co_geti S hK hH 0 29 129 (by decide) ⟨by decide, rfl, rfl, rfl⟩ (Or.inl q290) hk_a0 dX0_guess_29 ?_
  refine lv_iconst (v := 1) hx hb dX0_guess_32 (by decide) ?_
  refine lv_iadd hx hb dX0_guess_33 ?_
  refine co_puti S hK hH hS 0 29 129 (by decide) ⟨by decide, rfl, rfl, rfl, rfl⟩ (Or.inl q290) hk_a0 ⟨rfl, rfl⟩ dX0_guess_34 (fun H locs hH hS => ?_)
  obtain ⟨M8, eM8⟩ : ∃ y : Mm, y = sI M 129 a0 0 ((mI M 129 a0 0) + 1) := ⟨_, rfl⟩
  have hw := hw M8 eM8
  rw [← eM8] at hH
  have hE9 : Ext M M8 := by rw [eM8]; exact Ext.sI
  have hk10 := hE9.k hk_a0 (by decide)
  have hE := hE.tr hE9
  exact co_vret S hr hlocks hH hE hS hw dX0_guess_37
def w0_guess_195 (post : Mm → Prop)  (M : Mm) (a0 : Nat) (a2 : Nat) (x4 : Int32) (a5 : Nat) (t0 : Int32) (b1 : Nat) : Prop :=
  ∀ M58 : Mm, M58 = sI M 904 b1 0 t0 → (∀ M63 : Mm, M63 = sI M58 905 a5 0 (mI M58 602 a2 0) → (∀ M68 : Mm, M68 = sI M63 906 a5 0 (if (23 : Int32) < x4 then 23 else x4) → ((x4 = 24 → ∀ M74 : Mm, M74 = sI M68 129 a0 0 ((mI M68 129 a0 0) + 1) → (post M74)) ∧ (¬ x4 = 24 → post M68))))
set_option maxHeartbeats 4000000 in
set_option maxRecDepth 100000 in
theorem r0_guess_195 {p : Program} {l : Launch} {e : Env} {s : State} {m : MethodId} {args : Array Value} {below : List Frame} {meth : Method} {c : Code} {g : CG} {AD : Nat → Prop} {M0 : Mm} (S : CallFix p m c cX0_guess 6 s args lw_all RX0) (hr : meth.sig.returnType = none) (hlocks : meth.locks = false) (hK : KC g s) (hA : ∀ q, s.heap.size ≤ q → AD q) {post : Mm → Prop}  : ∀ (M : Mm) (a0 : Nat) (a2 : Nat) (x4 : Int32) (a5 : Nat) (t0 : Int32) (b1 : Nat), w0_guess_195 post  M a0 a2 x4 a5 t0 b1 → Ext M0 M → mK M a0 = 1 → mK M a2 = 6 → mK M a5 = 9 → mK M b1 = 9 → ∀ (H : Heap) (locs : List Loc), HC g AD M H → va_S AD s.heap H locs → ∀ (ls : Array Slot), lv_has ls 6 [(0, .ref a0), (2, .ref a2), (4, .int x4), (5, .ref a5)] → W p l e rm0_guess s m args below meth c H locs 0 0 (MQ below (CQv g AD M0 post) args s 0 0 AD) (F0 m 195 ls [.int t0, .ref b1]) := by
  have hx := S.1
  have hb := S.2.1
  have hown := S.2.2.2.1
  have hts := S.2.2.2.2
  intro M a0 a2 x4 a5 t0 b1 hw hE hk_a0 hk_a2 hk_a5 hk_b1 H locs hH hS ls hl
  unfold w0_guess_195 at hw
  refine co_puti S hK hH hS 8 4 904 (by decide) ⟨by decide, rfl, rfl, rfl, rfl⟩ (Or.inr ⟨_, q222⟩) hk_b1 ⟨rfl, rfl⟩ dX0_guess_195 (fun H locs hH hS => ?_)
  obtain ⟨M58, eM58⟩ : ∃ y : Mm, y = sI M 904 b1 0 t0 := ⟨_, rfl⟩
  have hw := hw M58 eM58
  rw [← eM58] at hH
  have hE59 : Ext M M58 := by rw [eM58]; exact Ext.sI
  have hk60 := hE59.k hk_a0 (by decide)
  have hk61 := hE59.k hk_a2 (by decide)
  have hk62 := hE59.k hk_a5 (by decide)
  have hE := hE.tr hE59
  refine lv_aload hx hb dX0_guess_198 (lv_at hl 3 rfl) ?_
  refine lv_aload_n hx hb dX0_guess_200 rfl (lv_at hl 1 rfl) ?_
  refine co_geti S hK hH 5 2 602 (by decide) ⟨by decide, rfl, rfl, rfl⟩ (Or.inr ⟨_, q156⟩) hk61 dX0_guess_201 ?_
  refine co_puti S hK hH hS 8 5 905 (by decide) ⟨by decide, rfl, rfl, rfl, rfl⟩ (Or.inr ⟨_, q224⟩) hk62 ⟨rfl, rfl⟩ dX0_guess_204 (fun H locs hH hS => ?_)
  obtain ⟨M63, eM63⟩ : ∃ y : Mm, y = sI M58 905 a5 0 (mI M58 602 a2 0) := ⟨_, rfl⟩
  have hw := hw M63 eM63
  rw [← eM63] at hH
  have hE64 : Ext M58 M63 := by rw [eM63]; exact Ext.sI
  have hk65 := hE64.k hk60 (by decide)
  have hk66 := hE64.k hk61 (by decide)
  have hk67 := hE64.k hk62 (by decide)
  have hE := hE.tr hE64
  refine lv_aload hx hb dX0_guess_207 (lv_at hl 3 rfl) ?_
  refine lv_iload hx hb dX0_guess_209 (lv_at hl 2 rfl) ?_
  refine lv_bipush (v := 23) hx hb dX0_guess_211 (by decide) ?_
  refine va_mmin hx hb (S.2.2.1.trans hl.1.symm) hown (hts _ q546) (hts _ q547) (hts _ q68) (hts _ q548) (Nat.le_of_ble_eq_true rfl) (Nat.le_of_ble_eq_true rfl) (Nat.le_of_ble_eq_true rfl) (Nat.le_of_ble_eq_true rfl) dX0_guess_213 ?_
  refine co_puti S hK hH hS 8 6 906 (by decide) ⟨by decide, rfl, rfl, rfl, rfl⟩ (Or.inr ⟨_, q226⟩) hk67 ⟨rfl, rfl⟩ dX0_guess_216 (fun H locs hH hS => ?_)
  obtain ⟨M68, eM68⟩ : ∃ y : Mm, y = sI M63 906 a5 0 (if (23 : Int32) < x4 then 23 else x4) := ⟨_, rfl⟩
  have hw := hw M68 eM68
  rw [← eM68] at hH
  have hE69 : Ext M63 M68 := by rw [eM68]; exact Ext.sI
  have hk70 := hE69.k hk65 (by decide)
  have hk71 := hE69.k hk66 (by decide)
  have hk72 := hE69.k hk67 (by decide)
  have hE := hE.tr hE69
  refine lv_iload hx hb dX0_guess_219 (lv_at hl 2 rfl) ?_
  refine lv_bipush (v := 24) hx hb dX0_guess_221 (by decide) ?_
  refine lv_icmp_ne (tgt := 236) hx hb dX0_guess_223 (by decide) (fun c73 => ?_) (fun c73 => ?_)
  · have hw := hw.2 c73
    exact co_vret S hr hlocks hH hE hS hw dX0_guess_236
  · have hw := hw.1 c73
    refine lv_aload_n hx hb dX0_guess_226 rfl (lv_at hl 0 rfl) ?_
    refine lv_dup hx hb dX0_guess_227 rfl ?_
    refine co_geti S hK hH 0 29 129 (by decide) ⟨by decide, rfl, rfl, rfl⟩ (Or.inl q290) hk70 dX0_guess_228 ?_
    refine lv_iconst (v := 1) hx hb dX0_guess_231 (by decide) ?_
    refine lv_iadd hx hb dX0_guess_232 ?_
    refine co_puti S hK hH hS 0 29 129 (by decide) ⟨by decide, rfl, rfl, rfl, rfl⟩ (Or.inl q290) hk70 ⟨rfl, rfl⟩ dX0_guess_233 (fun H locs hH hS => ?_)
    obtain ⟨M74, eM74⟩ : ∃ y : Mm, y = sI M68 129 a0 0 ((mI M68 129 a0 0) + 1) := ⟨_, rfl⟩
    have hw := hw M74 eM74
    rw [← eM74] at hH
    have hE75 : Ext M68 M74 := by rw [eM74]; exact Ext.sI
    have hk76 := hE75.k hk70 (by decide)
    have hk77 := hE75.k hk71 (by decide)
    have hk78 := hE75.k hk72 (by decide)
    have hE := hE.tr hE75
    exact co_vret S hr hlocks hH hE hS hw dX0_guess_236
def w0_guess_181 (post : Mm → Prop)  (M : Mm) (a0 : Nat) (x1 : Int32) (a2 : Nat) (x3 : Int32) (x4 : Int32) (a5 : Nat) (t0 : Int32) (b1 : Nat) : Prop :=
  ∀ M52 : Mm, M52 = sI M 903 b1 0 t0 → ((x3 = 0 → w0_guess_195 post M52 a0 a2 x4 a5 (-1) a5) ∧ (¬ x3 = 0 → w0_guess_195 post M52 a0 a2 x4 a5 x1 a5))
set_option maxHeartbeats 4000000 in
set_option maxRecDepth 100000 in
theorem r0_guess_181 {p : Program} {l : Launch} {e : Env} {s : State} {m : MethodId} {args : Array Value} {below : List Frame} {meth : Method} {c : Code} {g : CG} {AD : Nat → Prop} {M0 : Mm} (S : CallFix p m c cX0_guess 6 s args lw_all RX0) (hr : meth.sig.returnType = none) (hlocks : meth.locks = false) (hK : KC g s) (hA : ∀ q, s.heap.size ≤ q → AD q) {post : Mm → Prop}  : ∀ (M : Mm) (a0 : Nat) (x1 : Int32) (a2 : Nat) (x3 : Int32) (x4 : Int32) (a5 : Nat) (t0 : Int32) (b1 : Nat), w0_guess_181 post  M a0 x1 a2 x3 x4 a5 t0 b1 → Ext M0 M → mK M a0 = 1 → mK M a2 = 6 → mK M a5 = 9 → mK M b1 = 9 → ∀ (H : Heap) (locs : List Loc), HC g AD M H → va_S AD s.heap H locs → ∀ (ls : Array Slot), lv_has ls 6 [(0, .ref a0), (1, .int x1), (2, .ref a2), (3, .int x3), (4, .int x4), (5, .ref a5)] → W p l e rm0_guess s m args below meth c H locs 0 0 (MQ below (CQv g AD M0 post) args s 0 0 AD) (F0 m 181 ls [.int t0, .ref b1]) := by
  have hx := S.1
  have hb := S.2.1
  have hown := S.2.2.2.1
  have hts := S.2.2.2.2
  intro M a0 x1 a2 x3 x4 a5 t0 b1 hw hE hk_a0 hk_a2 hk_a5 hk_b1 H locs hH hS ls hl
  unfold w0_guess_181 at hw
  refine co_puti S hK hH hS 8 3 903 (by decide) ⟨by decide, rfl, rfl, rfl, rfl⟩ (Or.inr ⟨_, q220⟩) hk_b1 ⟨rfl, rfl⟩ dX0_guess_181 (fun H locs hH hS => ?_)
  obtain ⟨M52, eM52⟩ : ∃ y : Mm, y = sI M 903 b1 0 t0 := ⟨_, rfl⟩
  have hw := hw M52 eM52
  rw [← eM52] at hH
  have hE53 : Ext M M52 := by rw [eM52]; exact Ext.sI
  have hk54 := hE53.k hk_a0 (by decide)
  have hk55 := hE53.k hk_a2 (by decide)
  have hk56 := hE53.k hk_a5 (by decide)
  have hE := hE.tr hE53
  refine lv_aload hx hb dX0_guess_184 (lv_at hl 5 rfl) ?_
  refine lv_iload_n hx hb dX0_guess_186 rfl (lv_at hl 3 rfl) ?_
  refine lv_if_eq (tgt := 194) hx hb dX0_guess_187 (by decide) (fun c57 => ?_) (fun c57 => ?_)
  · have hw := hw.1 c57
    refine lv_iconst (v := (-1)) hx hb dX0_guess_194 (by decide) ?_
    exact r0_guess_195 S hr hlocks hK hA  _ _ _ _ _ _ _ hw hE hk54 hk55 hk56 hk56 _ _ hH hS _ (lv_sub hl [0, 2, 4, 5] rfl)
  · have hw := hw.2 c57
    refine lv_iload_n hx hb dX0_guess_190 rfl (lv_at hl 1 rfl) ?_
    refine lv_goto (tgt := 195) hx hb dX0_guess_191 (by decide) ?_
    exact r0_guess_195 S hr hlocks hK hA  _ _ _ _ _ _ _ hw hE hk54 hk55 hk56 hk56 _ _ hH hS _ (lv_sub hl [0, 2, 4, 5] rfl)
def w0_guess_164 (post : Mm → Prop)  (M : Mm) (a0 : Nat) (x1 : Int32) (a2 : Nat) (x3 : Int32) (x4 : Int32) (a5 : Nat) (t0 : Int32) (b1 : Nat) : Prop :=
  ∀ M46 : Mm, M46 = sI M 902 b1 0 t0 → ((x3 = 0 → w0_guess_181 post M46 a0 x1 a2 x3 x4 a5 (-1) a5) ∧ (¬ x3 = 0 → w0_guess_181 post M46 a0 x1 a2 x3 x4 a5 (mI M46 603 a2 0) a5))
set_option maxHeartbeats 4000000 in
set_option maxRecDepth 100000 in
theorem r0_guess_164 {p : Program} {l : Launch} {e : Env} {s : State} {m : MethodId} {args : Array Value} {below : List Frame} {meth : Method} {c : Code} {g : CG} {AD : Nat → Prop} {M0 : Mm} (S : CallFix p m c cX0_guess 6 s args lw_all RX0) (hr : meth.sig.returnType = none) (hlocks : meth.locks = false) (hK : KC g s) (hA : ∀ q, s.heap.size ≤ q → AD q) {post : Mm → Prop}  : ∀ (M : Mm) (a0 : Nat) (x1 : Int32) (a2 : Nat) (x3 : Int32) (x4 : Int32) (a5 : Nat) (t0 : Int32) (b1 : Nat), w0_guess_164 post  M a0 x1 a2 x3 x4 a5 t0 b1 → Ext M0 M → mK M a0 = 1 → mK M a2 = 6 → mK M a5 = 9 → mK M b1 = 9 → ∀ (H : Heap) (locs : List Loc), HC g AD M H → va_S AD s.heap H locs → ∀ (ls : Array Slot), lv_has ls 6 [(0, .ref a0), (1, .int x1), (2, .ref a2), (3, .int x3), (4, .int x4), (5, .ref a5)] → W p l e rm0_guess s m args below meth c H locs 0 0 (MQ below (CQv g AD M0 post) args s 0 0 AD) (F0 m 164 ls [.int t0, .ref b1]) := by
  have hx := S.1
  have hb := S.2.1
  have hown := S.2.2.2.1
  have hts := S.2.2.2.2
  intro M a0 x1 a2 x3 x4 a5 t0 b1 hw hE hk_a0 hk_a2 hk_a5 hk_b1 H locs hH hS ls hl
  unfold w0_guess_164 at hw
  refine co_puti S hK hH hS 8 2 902 (by decide) ⟨by decide, rfl, rfl, rfl, rfl⟩ (Or.inr ⟨_, q218⟩) hk_b1 ⟨rfl, rfl⟩ dX0_guess_164 (fun H locs hH hS => ?_)
  obtain ⟨M46, eM46⟩ : ∃ y : Mm, y = sI M 902 b1 0 t0 := ⟨_, rfl⟩
  have hw := hw M46 eM46
  rw [← eM46] at hH
  have hE47 : Ext M M46 := by rw [eM46]; exact Ext.sI
  have hk48 := hE47.k hk_a0 (by decide)
  have hk49 := hE47.k hk_a2 (by decide)
  have hk50 := hE47.k hk_a5 (by decide)
  have hE := hE.tr hE47
  refine lv_aload hx hb dX0_guess_167 (lv_at hl 5 rfl) ?_
  refine lv_iload_n hx hb dX0_guess_169 rfl (lv_at hl 3 rfl) ?_
  refine lv_if_eq (tgt := 180) hx hb dX0_guess_170 (by decide) (fun c51 => ?_) (fun c51 => ?_)
  · have hw := hw.1 c51
    refine lv_iconst (v := (-1)) hx hb dX0_guess_180 (by decide) ?_
    exact r0_guess_181 S hr hlocks hK hA  _ _ _ _ _ _ _ _ _ hw hE hk48 hk49 hk50 hk50 _ _ hH hS _ (lv_sub hl [0, 1, 2, 3, 4, 5] rfl)
  · have hw := hw.2 c51
    refine lv_aload_n hx hb dX0_guess_173 rfl (lv_at hl 2 rfl) ?_
    refine co_geti S hK hH 5 3 603 (by decide) ⟨by decide, rfl, rfl, rfl⟩ (Or.inr ⟨_, q161⟩) hk49 dX0_guess_174 ?_
    refine lv_goto (tgt := 181) hx hb dX0_guess_177 (by decide) ?_
    exact r0_guess_181 S hr hlocks hK hA  _ _ _ _ _ _ _ _ _ hw hE hk48 hk49 hk50 hk50 _ _ hH hS _ (lv_sub hl [0, 1, 2, 3, 4, 5] rfl)
def w0_guess_99 (post : Mm → Prop)  (M : Mm) (a0 : Nat) (x1 : Int32) (a2 : Nat) (x3 : Int32) (x4 : Int32) : Prop :=
  ((mI M 128 a0 0) = 60 → post M) ∧ (¬ (mI M 128 a0 0) = 60 → mK M (mP M 127 a0 0) = 28 ∧ (vp_in (mI M 128 a0 0) 60 ∧ (mK M (mP M 28 (mP M 127 a0 0) (mI M 128 a0 0).toNatClampNeg) = 9 ∧ (∀ M30 : Mm, M30 = sI M 128 a0 0 ((mI M 128 a0 0) + 1) → (∀ M35 : Mm, M35 = sI M30 900 (mP M 28 (mP M 127 a0 0) (mI M 128 a0 0).toNatClampNeg) 0 ((mI M30 107 a0 0) + 1) → (∀ M40 : Mm, M40 = sI M35 901 (mP M 28 (mP M 127 a0 0) (mI M 128 a0 0).toNatClampNeg) 0 (mI M35 129 a0 0) → ((x3 = 0 → w0_guess_164 post M40 a0 x1 a2 x3 x4 (mP M 28 (mP M 127 a0 0) (mI M 128 a0 0).toNatClampNeg) (-1) (mP M 28 (mP M 127 a0 0) (mI M 128 a0 0).toNatClampNeg)) ∧ (¬ x3 = 0 → w0_guess_164 post M40 a0 x1 a2 x3 x4 (mP M 28 (mP M 127 a0 0) (mI M 128 a0 0).toNatClampNeg) (mI M40 602 a2 0) (mP M 28 (mP M 127 a0 0) (mI M 128 a0 0).toNatClampNeg)))))))))
set_option maxHeartbeats 4000000 in
set_option maxRecDepth 100000 in
theorem r0_guess_99 {p : Program} {l : Launch} {e : Env} {s : State} {m : MethodId} {args : Array Value} {below : List Frame} {meth : Method} {c : Code} {g : CG} {AD : Nat → Prop} {M0 : Mm} (S : CallFix p m c cX0_guess 6 s args lw_all RX0) (hr : meth.sig.returnType = none) (hlocks : meth.locks = false) (hK : KC g s) (hA : ∀ q, s.heap.size ≤ q → AD q) {post : Mm → Prop}  : ∀ (M : Mm) (a0 : Nat) (x1 : Int32) (a2 : Nat) (x3 : Int32) (x4 : Int32), w0_guess_99 post  M a0 x1 a2 x3 x4 → Ext M0 M → mK M a0 = 1 → mK M a2 = 6 → ∀ (H : Heap) (locs : List Loc), HC g AD M H → va_S AD s.heap H locs → ∀ (ls : Array Slot), lv_has ls 6 [(0, .ref a0), (1, .int x1), (2, .ref a2), (3, .int x3), (4, .int x4)] → W p l e rm0_guess s m args below meth c H locs 0 0 (MQ below (CQv g AD M0 post) args s 0 0 AD) (F0 m 99 ls []) := by
  have hx := S.1
  have hb := S.2.1
  have hown := S.2.2.2.1
  have hts := S.2.2.2.2
  intro M a0 x1 a2 x3 x4 hw hE hk_a0 hk_a2 H locs hH hS ls hl
  unfold w0_guess_99 at hw
  refine lv_aload_n hx hb dX0_guess_99 rfl (lv_at hl 0 rfl) ?_
  refine co_geti S hK hH 0 28 128 (by decide) ⟨by decide, rfl, rfl, rfl⟩ (Or.inl q289) hk_a0 dX0_guess_100 ?_
  refine lv_bipush (v := 60) hx hb dX0_guess_103 (by decide) ?_
  refine lv_icmp_ne (tgt := 109) hx hb dX0_guess_105 (by decide) (fun c26 => ?_) (fun c26 => ?_)
  · have hw := hw.2 c26
    refine lv_aload_n hx hb dX0_guess_109 rfl (lv_at hl 0 rfl) ?_
    have hk27 := hw.1
    have hw := hw.2
    refine co_getr S hK hH 0 27 127 (by decide) ⟨by decide, rfl, rfl, rfl⟩ (Or.inl q288) hk_a0 (by rw [hk27]; decide) dX0_guess_110 ?_
    refine lv_aload_n hx hb dX0_guess_113 rfl (lv_at hl 0 rfl) ?_
    refine co_geti S hK hH 0 28 128 (by decide) ⟨by decide, rfl, rfl, rfl⟩ (Or.inl q289) hk_a0 dX0_guess_114 ?_
    have hin28 := hw.1
    have hw := hw.2
    have hk29 := hw.1
    have hw := hw.2
    refine co_aald S hK hH 8 28 ⟨by decide, rfl, rfl⟩ hk27 hin28 (by rw [hk29]; decide) dX0_guess_117 ?_
    refine lv_astore (lv' := [(5, .ref (mP M 28 (mP M 127 a0 0) (mI M 128 a0 0).toNatClampNeg)), (0, .ref a0), (1, .int x1), (2, .ref a2), (3, .int x3), (4, .int x4)]) hx hb dX0_guess_118 hl (by decide) rfl (fun ls hl => ?_)
    refine lv_aload_n hx hb dX0_guess_120 rfl (lv_at hl 1 rfl) ?_
    refine lv_dup hx hb dX0_guess_121 rfl ?_
    refine co_geti S hK hH 0 28 128 (by decide) ⟨by decide, rfl, rfl, rfl⟩ (Or.inl q289) hk_a0 dX0_guess_122 ?_
    refine lv_iconst (v := 1) hx hb dX0_guess_125 (by decide) ?_
    refine lv_iadd hx hb dX0_guess_126 ?_
    refine co_puti S hK hH hS 0 28 128 (by decide) ⟨by decide, rfl, rfl, rfl, rfl⟩ (Or.inl q289) hk_a0 ⟨rfl, rfl⟩ dX0_guess_127 (fun H locs hH hS => ?_)
    obtain ⟨M30, eM30⟩ : ∃ y : Mm, y = sI M 128 a0 0 ((mI M 128 a0 0) + 1) := ⟨_, rfl⟩
    have hw := hw M30 eM30
    rw [← eM30] at hH
    have hE31 : Ext M M30 := by rw [eM30]; exact Ext.sI
    have hk32 := hE31.k hk_a0 (by decide)
    have hk33 := hE31.k hk_a2 (by decide)
    have hk34 := hE31.k hk29 (by decide)
    have hE := hE.tr hE31
    refine lv_aload hx hb dX0_guess_130 (lv_at hl 0 rfl) ?_
    refine lv_aload_n hx hb dX0_guess_132 rfl (lv_at hl 1 rfl) ?_
    refine co_geti S hK hH 0 7 107 (by decide) ⟨by decide, rfl, rfl, rfl⟩ (Or.inl q268) hk32 dX0_guess_133 ?_
    refine lv_iconst (v := 1) hx hb dX0_guess_136 (by decide) ?_
    refine lv_iadd hx hb dX0_guess_137 ?_
    refine co_puti S hK hH hS 8 0 900 (by decide) ⟨by decide, rfl, rfl, rfl, rfl⟩ (Or.inr ⟨_, q214⟩) hk34 ⟨rfl, rfl⟩ dX0_guess_138 (fun H locs hH hS => ?_)
    obtain ⟨M35, eM35⟩ : ∃ y : Mm, y = sI M30 900 (mP M 28 (mP M 127 a0 0) (mI M 128 a0 0).toNatClampNeg) 0 ((mI M30 107 a0 0) + 1) := ⟨_, rfl⟩
    have hw := hw M35 eM35
    rw [← eM35] at hH
    have hE36 : Ext M30 M35 := by rw [eM35]; exact Ext.sI
    have hk37 := hE36.k hk32 (by decide)
    have hk38 := hE36.k hk33 (by decide)
    have hk39 := hE36.k hk34 (by decide)
    have hE := hE.tr hE36
    refine lv_aload hx hb dX0_guess_141 (lv_at hl 0 rfl) ?_
    refine lv_aload_n hx hb dX0_guess_143 rfl (lv_at hl 1 rfl) ?_
    refine co_geti S hK hH 0 29 129 (by decide) ⟨by decide, rfl, rfl, rfl⟩ (Or.inl q290) hk37 dX0_guess_144 ?_
    refine co_puti S hK hH hS 8 1 901 (by decide) ⟨by decide, rfl, rfl, rfl, rfl⟩ (Or.inr ⟨_, q216⟩) hk39 ⟨rfl, rfl⟩ dX0_guess_147 (fun H locs hH hS => ?_)
    obtain ⟨M40, eM40⟩ : ∃ y : Mm, y = sI M35 901 (mP M 28 (mP M 127 a0 0) (mI M 128 a0 0).toNatClampNeg) 0 (mI M35 129 a0 0) := ⟨_, rfl⟩
    have hw := hw M40 eM40
    rw [← eM40] at hH
    have hE41 : Ext M35 M40 := by rw [eM40]; exact Ext.sI
    have hk42 := hE41.k hk37 (by decide)
    have hk43 := hE41.k hk38 (by decide)
    have hk44 := hE41.k hk39 (by decide)
    have hE := hE.tr hE41
    refine lv_aload hx hb dX0_guess_150 (lv_at hl 0 rfl) ?_
    refine lv_iload_n hx hb dX0_guess_152 rfl (lv_at hl 4 rfl) ?_
    refine lv_if_eq (tgt := 163) hx hb dX0_guess_153 (by decide) (fun c45 => ?_) (fun c45 => ?_)
    · have hw := hw.1 c45
      refine lv_iconst (v := (-1)) hx hb dX0_guess_163 (by decide) ?_
      exact r0_guess_164 S hr hlocks hK hA  _ _ _ _ _ _ _ _ _ hw hE hk42 hk43 hk44 hk44 _ _ hH hS _ (lv_sub hl [1, 2, 3, 4, 5, 0] rfl)
    · have hw := hw.2 c45
      refine lv_aload_n hx hb dX0_guess_156 rfl (lv_at hl 3 rfl) ?_
      refine co_geti S hK hH 5 2 602 (by decide) ⟨by decide, rfl, rfl, rfl⟩ (Or.inr ⟨_, q156⟩) hk43 dX0_guess_157 ?_
      refine lv_goto (tgt := 164) hx hb dX0_guess_160 (by decide) ?_
      exact r0_guess_164 S hr hlocks hK hA  _ _ _ _ _ _ _ _ _ hw hE hk42 hk43 hk44 hk44 _ _ hH hS _ (lv_sub hl [1, 2, 3, 4, 5, 0] rfl)
  · have hw := hw.1 c26
    exact co_vret S hr hlocks hH hE hS hw dX0_guess_108
def w0_guess_80 (post : Mm → Prop)  (M : Mm) (a0 : Nat) (x1 : Int32) (a2 : Nat) (x3 : Int32) (t0 : Int32) : Prop :=
  (x3 = 0 → (t0 < 0 → post M) ∧ (¬ t0 < 0 → (t0 < 24 → w0_guess_99 post M a0 x1 a2 x3 t0) ∧ (¬ t0 < 24 → post M))) ∧ (¬ x3 = 0 → w0_guess_99 post M a0 x1 a2 x3 t0)
set_option maxHeartbeats 4000000 in
set_option maxRecDepth 100000 in
theorem r0_guess_80 {p : Program} {l : Launch} {e : Env} {s : State} {m : MethodId} {args : Array Value} {below : List Frame} {meth : Method} {c : Code} {g : CG} {AD : Nat → Prop} {M0 : Mm} (S : CallFix p m c cX0_guess 6 s args lw_all RX0) (hr : meth.sig.returnType = none) (hlocks : meth.locks = false) (hK : KC g s) (hA : ∀ q, s.heap.size ≤ q → AD q) {post : Mm → Prop}  : ∀ (M : Mm) (a0 : Nat) (x1 : Int32) (a2 : Nat) (x3 : Int32) (t0 : Int32), w0_guess_80 post  M a0 x1 a2 x3 t0 → Ext M0 M → mK M a0 = 1 → mK M a2 = 6 → ∀ (H : Heap) (locs : List Loc), HC g AD M H → va_S AD s.heap H locs → ∀ (ls : Array Slot), lv_has ls 6 [(0, .ref a0), (1, .int x1), (2, .ref a2), (3, .int x3)] → W p l e rm0_guess s m args below meth c H locs 0 0 (MQ below (CQv g AD M0 post) args s 0 0 AD) (F0 m 80 ls [.int t0]) := by
  have hx := S.1
  have hb := S.2.1
  have hown := S.2.2.2.1
  have hts := S.2.2.2.2
  intro M a0 x1 a2 x3 t0 hw hE hk_a0 hk_a2 H locs hH hS ls hl
  unfold w0_guess_80 at hw
  refine lv_istore (lv' := [(4, .int t0), (0, .ref a0), (1, .int x1), (2, .ref a2), (3, .int x3)]) hx hb dX0_guess_80 hl (by decide) rfl (fun ls hl => ?_)
  refine lv_iload_n hx hb dX0_guess_82 rfl (lv_at hl 4 rfl) ?_
  refine lv_if_ne (tgt := 99) hx hb dX0_guess_83 (by decide) (fun c25 => ?_) (fun c25 => ?_)
  · have hw := hw.2 c25
    exact r0_guess_99 S hr hlocks hK hA  _ _ _ _ _ _ hw hE hk_a0 hk_a2 _ _ hH hS _ (lv_sub hl [1, 2, 3, 4, 0] rfl)
  · have hw := hw.1 c25
    refine lv_iload hx hb dX0_guess_86 (lv_at hl 0 rfl) ?_
    refine lv_if_lt (tgt := 98) hx hb dX0_guess_88 (by decide) (fun c79 => ?_) (fun c79 => ?_)
    · have hw := hw.1 c79
      exact co_vret S hr hlocks hH hE hS hw dX0_guess_98
    · have hw := hw.2 c79
      refine lv_iload hx hb dX0_guess_91 (lv_at hl 0 rfl) ?_
      refine lv_bipush (v := 24) hx hb dX0_guess_93 (by decide) ?_
      refine lv_icmp_lt (tgt := 99) hx hb dX0_guess_95 (by decide) (fun c80 => ?_) (fun c80 => ?_)
      · have hw := hw.1 c80
        exact r0_guess_99 S hr hlocks hK hA  _ _ _ _ _ _ hw hE hk_a0 hk_a2 _ _ hH hS _ (lv_sub hl [1, 2, 3, 4, 0] rfl)
      · have hw := hw.2 c80
        exact co_vret S hr hlocks hH hE hS hw dX0_guess_98
def w0_guess_79 (post : Mm → Prop)  (M : Mm) (a0 : Nat) (x1 : Int32) (a2 : Nat) (x3 : Int32) (t0 : Int32) (t1 : Int32) : Prop :=
  w0_guess_80 post M a0 x1 a2 x3 (t1 + t0)
set_option maxHeartbeats 4000000 in
set_option maxRecDepth 100000 in
theorem r0_guess_79 {p : Program} {l : Launch} {e : Env} {s : State} {m : MethodId} {args : Array Value} {below : List Frame} {meth : Method} {c : Code} {g : CG} {AD : Nat → Prop} {M0 : Mm} (S : CallFix p m c cX0_guess 6 s args lw_all RX0) (hr : meth.sig.returnType = none) (hlocks : meth.locks = false) (hK : KC g s) (hA : ∀ q, s.heap.size ≤ q → AD q) {post : Mm → Prop}  : ∀ (M : Mm) (a0 : Nat) (x1 : Int32) (a2 : Nat) (x3 : Int32) (t0 : Int32) (t1 : Int32), w0_guess_79 post  M a0 x1 a2 x3 t0 t1 → Ext M0 M → mK M a0 = 1 → mK M a2 = 6 → ∀ (H : Heap) (locs : List Loc), HC g AD M H → va_S AD s.heap H locs → ∀ (ls : Array Slot), lv_has ls 6 [(0, .ref a0), (1, .int x1), (2, .ref a2), (3, .int x3)] → W p l e rm0_guess s m args below meth c H locs 0 0 (MQ below (CQv g AD M0 post) args s 0 0 AD) (F0 m 79 ls [.int t0, .int t1]) := by
  have hx := S.1
  have hb := S.2.1
  have hown := S.2.2.2.1
  have hts := S.2.2.2.2
  intro M a0 x1 a2 x3 t0 t1 hw hE hk_a0 hk_a2 H locs hH hS ls hl
  unfold w0_guess_79 at hw
  refine lv_iadd hx hb dX0_guess_79 ?_
  exact r0_guess_80 S hr hlocks hK hA  _ _ _ _ _ _ hw hE hk_a0 hk_a2 _ _ hH hS _ (lv_sub hl [0, 1, 2, 3] rfl)
def w0_guess_38 (post : Mm → Prop)  (M : Mm) (a0 : Nat) (x1 : Int32) : Prop :=
  w0_laid (fun (r13 : Nat) (M12 : Mm) => w0_isLetter (fun (r18 : Int32) (M17 : Mm) => (r18 = 0 → (x1 = 3 → w0_guess_79 post M17 a0 x1 r13 r18 1 (mI M17 603 r13 0)) ∧ (¬ x1 = 3 → w0_guess_79 post M17 a0 x1 r13 r18 (-1) (mI M17 603 r13 0))) ∧ (¬ r18 = 0 → w0_guess_80 post M17 a0 x1 r13 r18 ((mI M17 603 r13 0) + 1))) M12 x1) M a0 (mI M 129 a0 0)
set_option maxHeartbeats 4000000 in
set_option maxRecDepth 100000 in
theorem r0_guess_38 {p : Program} {l : Launch} {e : Env} {s : State} {m : MethodId} {args : Array Value} {below : List Frame} {meth : Method} {c : Code} {g : CG} {AD : Nat → Prop} {M0 : Mm} (S : CallFix p m c cX0_guess 6 s args lw_all RX0) (hr : meth.sig.returnType = none) (hlocks : meth.locks = false) (hK : KC g s) (hA : ∀ q, s.heap.size ≤ q → AD q) {post : Mm → Prop}  : ∀ (M : Mm) (a0 : Nat) (x1 : Int32), w0_guess_38 post  M a0 x1 → Ext M0 M → mK M a0 = 1 → ∀ (H : Heap) (locs : List Loc), HC g AD M H → va_S AD s.heap H locs → ∀ (ls : Array Slot), lv_has ls 6 [(0, .ref a0), (1, .int x1)] → W p l e rm0_guess s m args below meth c H locs 0 0 (MQ below (CQv g AD M0 post) args s 0 0 AD) (F0 m 38 ls []) := by
  have hx := S.1
  have hb := S.2.1
  have hown := S.2.2.2.1
  have hts := S.2.2.2.2
  intro M a0 x1 hw hE hk_a0 H locs hH hS ls hl
  unfold w0_guess_38 at hw
  refine lv_aload_n hx hb dX0_guess_38 rfl (lv_at hl 0 rfl) ?_
  refine lv_aload_n hx hb dX0_guess_39 rfl (lv_at hl 0 rfl) ?_
  refine co_geti S hK hH 0 29 129 (by decide) ⟨by decide, rfl, rfl, rfl⟩ (Or.inl q290) hk_a0 dX0_guess_40 ?_
  refine co_callr (va_runV (As := [.int (mI M 129 a0 0)]) (rest := []) S (m0_laid l g AD M a0 (mI M 129 a0 0) _ hk_a0 hw) (cwV 1 hts (lw_V q532 q534 qs3 q54 q535) rfl rfl rfl (by decide +kernel) ⟨Nat.le_of_ble_eq_true rfl, Nat.le_of_ble_eq_true rfl⟩) ⟨co_blind, co_recv hK hH (c := 0) (by decide) hk_a0, co_pre hK hH hA hS⟩ rfl rfl hl.1 rfl (lv_room (Nat.le_of_ble_eq_true rfl)) dX0_guess_43 ⟨Nat.le_refl _, Nat.le_refl _⟩) hS (fun r13 M12 H locs hw hH hE14 hk15 hS => ?_)
  have hk16 := hE14.k hk_a0 (by decide)
  have hE := hE.tr hE14
  have hk15 : mK M12 r13 = 6 := hk15
  refine lv_astore_n (lv' := [(2, .ref r13), (0, .ref a0), (1, .int x1)]) hx hb dX0_guess_46 rfl hl (by decide) rfl (fun ls hl => ?_)
  refine lv_iload_n hx hb dX0_guess_47 rfl (lv_at hl 2 rfl) ?_
  refine co_calli (va_runS (As := [.int x1]) (rest := []) S (m0_isLetter l g AD M12 x1 _ hw) (va_cwS 1 hts (lw_S q400 q401 q54 q402) rfl rfl rfl (by decide +kernel) ⟨Nat.le_of_ble_eq_true rfl, Nat.le_of_ble_eq_true rfl⟩) ⟨co_blind, co_pre hK hH hA hS⟩ rfl rfl hl.1 rfl (lv_room (Nat.le_of_ble_eq_true rfl)) dX0_guess_48 ⟨Nat.le_refl _, Nat.le_refl _⟩) hS (fun r18 M17 H locs hw hH hE19 hS => ?_)
  have hk21 := hE19.k hk16 (by decide)
  have hk22 := hE19.k hk15 (by decide)
  have hE := hE.tr hE19
  refine lv_istore_n (lv' := [(3, .int r18), (2, .ref r13), (0, .ref a0), (1, .int x1)]) hx hb dX0_guess_51 rfl hl (by decide) rfl (fun ls hl => ?_)
  refine lv_iload_n hx hb dX0_guess_52 rfl (lv_at hl 0 rfl) ?_
  refine lv_if_eq (tgt := 65) hx hb dX0_guess_53 (by decide) (fun c23 => ?_) (fun c23 => ?_)
  · have hw := hw.1 c23
    refine lv_aload_n hx hb dX0_guess_65 rfl (lv_at hl 1 rfl) ?_
    refine co_geti S hK hH 5 3 603 (by decide) ⟨by decide, rfl, rfl, rfl⟩ (Or.inr ⟨_, q161⟩) hk22 dX0_guess_66 ?_
    refine lv_iload_n hx hb dX0_guess_69 rfl (lv_at hl 3 rfl) ?_
    refine lv_iconst (v := 3) hx hb dX0_guess_70 (by decide) ?_
    refine lv_icmp_ne (tgt := 78) hx hb dX0_guess_71 (by decide) (fun c24 => ?_) (fun c24 => ?_)
    · have hw := hw.2 c24
      refine lv_iconst (v := (-1)) hx hb dX0_guess_78 (by decide) ?_
      exact r0_guess_79 S hr hlocks hK hA  _ _ _ _ _ _ _ hw hE hk21 hk22 _ _ hH hS _ (lv_sub hl [2, 3, 1, 0] rfl)
    · have hw := hw.1 c24
      refine lv_iconst (v := 1) hx hb dX0_guess_74 (by decide) ?_
      refine lv_goto (tgt := 79) hx hb dX0_guess_75 (by decide) ?_
      exact r0_guess_79 S hr hlocks hK hA  _ _ _ _ _ _ _ hw hE hk21 hk22 _ _ hH hS _ (lv_sub hl [2, 3, 1, 0] rfl)
  · have hw := hw.2 c23
    refine lv_aload_n hx hb dX0_guess_56 rfl (lv_at hl 1 rfl) ?_
    refine co_geti S hK hH 5 3 603 (by decide) ⟨by decide, rfl, rfl, rfl⟩ (Or.inr ⟨_, q161⟩) hk22 dX0_guess_57 ?_
    refine lv_iconst (v := 1) hx hb dX0_guess_60 (by decide) ?_
    refine lv_iadd hx hb dX0_guess_61 ?_
    refine lv_goto (tgt := 80) hx hb dX0_guess_62 (by decide) ?_
    exact r0_guess_80 S hr hlocks hK hA  _ _ _ _ _ _ hw hE hk21 hk22 _ _ hH hS _ (lv_sub hl [2, 3, 1, 0] rfl)
def w0_guess_7 (post : Mm → Prop)  (M : Mm) (a0 : Nat) (x1 : Int32) (t0 : Int32) : Prop :=
  (t0 = 0 → w0_guess_27 post M a0) ∧ (¬ t0 = 0 → (x1 = 3 → w0_guess_38 post M a0 x1) ∧ (¬ x1 = 3 → (x1 = 4 → w0_guess_38 post M a0 x1) ∧ (¬ x1 = 4 → w0_isLetter (fun (r83 : Int32) (M82 : Mm) => (r83 = 0 → w0_guess_27 post M82 a0) ∧ (¬ r83 = 0 → w0_guess_38 post M82 a0 x1)) M x1)))
set_option maxHeartbeats 4000000 in
set_option maxRecDepth 100000 in
theorem r0_guess_7 {p : Program} {l : Launch} {e : Env} {s : State} {m : MethodId} {args : Array Value} {below : List Frame} {meth : Method} {c : Code} {g : CG} {AD : Nat → Prop} {M0 : Mm} (S : CallFix p m c cX0_guess 6 s args lw_all RX0) (hr : meth.sig.returnType = none) (hlocks : meth.locks = false) (hK : KC g s) (hA : ∀ q, s.heap.size ≤ q → AD q) {post : Mm → Prop}  : ∀ (M : Mm) (a0 : Nat) (x1 : Int32) (t0 : Int32), w0_guess_7 post  M a0 x1 t0 → Ext M0 M → mK M a0 = 1 → ∀ (H : Heap) (locs : List Loc), HC g AD M H → va_S AD s.heap H locs → ∀ (ls : Array Slot), lv_has ls 6 [(0, .ref a0), (1, .int x1)] → W p l e rm0_guess s m args below meth c H locs 0 0 (MQ below (CQv g AD M0 post) args s 0 0 AD) (F0 m 7 ls [.int t0]) := by
  have hx := S.1
  have hb := S.2.1
  have hown := S.2.2.2.1
  have hts := S.2.2.2.2
  intro M a0 x1 t0 hw hE hk_a0 H locs hH hS ls hl
  unfold w0_guess_7 at hw
  refine lv_if_eq (tgt := 27) hx hb dX0_guess_7 (by decide) (fun c7 => ?_) (fun c7 => ?_)
  · have hw := hw.1 c7
    exact r0_guess_27 S hr hlocks hK hA  _ _ hw hE hk_a0 _ _ hH hS _ (lv_sub hl [0] rfl)
  · have hw := hw.2 c7
    refine lv_iload_n hx hb dX0_guess_10 rfl (lv_at hl 1 rfl) ?_
    refine lv_iconst (v := 3) hx hb dX0_guess_11 (by decide) ?_
    refine lv_icmp_eq (tgt := 38) hx hb dX0_guess_12 (by decide) (fun c11 => ?_) (fun c11 => ?_)
    · have hw := hw.1 c11
      exact r0_guess_38 S hr hlocks hK hA  _ _ _ hw hE hk_a0 _ _ hH hS _ (lv_sub hl [0, 1] rfl)
    · have hw := hw.2 c11
      refine lv_iload_n hx hb dX0_guess_15 rfl (lv_at hl 1 rfl) ?_
      refine lv_iconst (v := 4) hx hb dX0_guess_16 (by decide) ?_
      refine lv_icmp_eq (tgt := 38) hx hb dX0_guess_17 (by decide) (fun c81 => ?_) (fun c81 => ?_)
      · have hw := hw.1 c81
        exact r0_guess_38 S hr hlocks hK hA  _ _ _ hw hE hk_a0 _ _ hH hS _ (lv_sub hl [0, 1] rfl)
      · have hw := hw.2 c81
        refine lv_iload_n hx hb dX0_guess_20 rfl (lv_at hl 1 rfl) ?_
        refine co_calli (va_runS (As := [.int x1]) (rest := []) S (m0_isLetter l g AD M x1 _ hw) (va_cwS 1 hts (lw_S q400 q401 q54 q402) rfl rfl rfl (by decide +kernel) ⟨Nat.le_of_ble_eq_true rfl, Nat.le_of_ble_eq_true rfl⟩) ⟨co_blind, co_pre hK hH hA hS⟩ rfl rfl hl.1 rfl (lv_room (Nat.le_of_ble_eq_true rfl)) dX0_guess_21 ⟨Nat.le_refl _, Nat.le_refl _⟩) hS (fun r83 M82 H locs hw hH hE84 hS => ?_)
        have hk86 := hE84.k hk_a0 (by decide)
        have hE := hE.tr hE84
        refine lv_if_ne (tgt := 38) hx hb dX0_guess_24 (by decide) (fun c87 => ?_) (fun c87 => ?_)
        · have hw := hw.2 c87
          exact r0_guess_38 S hr hlocks hK hA  _ _ _ hw hE hk86 _ _ hH hS _ (lv_sub hl [0, 1] rfl)
        · have hw := hw.1 c87
          exact r0_guess_27 S hr hlocks hK hA  _ _ hw hE hk86 _ _ hH hS _ (lv_sub hl [0] rfl)
def w0_guess (post : Mm → Prop) (M : Mm) (a0 : Nat) (x1 : Int32) : Prop :=
  isPrg (mK M (mP M 115 a0 0)) ∧ ((mK M (mP M 115 a0 0) = 8 → w6_isPlain (fun (r3 : Int32) (M2 : Mm) => w0_guess_7 post M2 a0 x1 r3) M (mP M 115 a0 0)) ∧ (mK M (mP M 115 a0 0) = 11 → w6_isPlain (fun (r89 : Int32) (M88 : Mm) => w0_guess_7 post M88 a0 x1 r89) M (mP M 115 a0 0)) ∧ (mK M (mP M 115 a0 0) = 12 → w11_isPlain (fun (r94 : Int32) (M93 : Mm) => w0_guess_7 post M93 a0 x1 r94) M (mP M 115 a0 0)) ∧ (mK M (mP M 115 a0 0) = 13 → w6_isPlain (fun (r99 : Int32) (M98 : Mm) => w0_guess_7 post M98 a0 x1 r99) M (mP M 115 a0 0)))
set_option maxHeartbeats 4000000 in
set_option maxRecDepth 100000 in
theorem m0_guess (l : Launch) (g : CG) (AD : Nat → Prop) (M : Mm) (a0 : Nat) (x1 : Int32) (post : Mm → Prop) (hk_a0 : mK M a0 = 1) (hw : w0_guess post M a0 x1) : Met l yX0_guess (ws_ yX0_guess cX0_guess 6 none) rm0_guess (CPc g AD M [.ref a0, .int x1]) (CQv g AD M post) 0 0 AD := by
  refine Met.ofW (cc := cX0_guess) (maxL := 6) (ret := none) (by decide) rfl ?_
  intro p e s m args below meth c s₁ B hml hv
  obtain ⟨rfl, hK, hH, hA⟩ := hv
  have hx := B.exec
  have hb := B.bytes
  have hr : meth.sig.returnType = none := B.returns
  have hts := atoms_spec (ws := ws_ yX0_guess cX0_guess 6 none) B.pre
  have hts : ∀ w ∈ lw_all, w.before _ s = true := fun w h => hts w (List.mem_cons_of_mem _ h)
  have hown : s.vm.findClass RX0 = some m.cls := findClass_of_methodNamed B.named
  have hlocks : meth.locks = false := B.notSynchronized
  have S : CallFix p m c cX0_guess 6 s _ lw_all RX0 := ⟨hx, hb, hml, hown, hts⟩
  have hS : va_S AD s.heap s.heap [] := va_S.rf
  have hE : Ext M M := Ext.rf
  have hl := lv_entry ([.ref a0, .int x1]) (n := 6) (Nat.le_of_ble_eq_true rfl)
  rw [lg_entry_eq]
  generalize (lg_sl ([.ref a0, .int x1]) ++ List.replicate (6 - (lg_sl ([.ref a0, .int x1])).length) Slot.unset).toArray = ls at hl ⊢
  have hl : lv_has ls 6 [(0, .ref a0), (1, .int x1)] := hl
  unfold w0_guess at hw
  refine lv_aload_n hx hb dX0_guess_0 rfl (lv_at hl 0 rfl) ?_
  have hk1 := hw.1
  have hw := hw.2
  refine co_getr S hK hH 0 15 115 (by decide) ⟨by decide, rfl, rfl, rfl⟩ (Or.inl q276) hk_a0 hk1.ne dX0_guess_1 ?_
  rcases hk1 with hq | hq | hq | hq
  · have hw := hw.1 hq
    refine co_calli (va_runU (As := []) (rest := []) S (m6_isPlain l g AD M (mP M 115 a0 0) _ hw) (va_cwU (owner := "FarTypewriter$Program") (x := ⟨"FarTypewriter$Program", "isPlain", "()Z"⟩) 0 hts (lw_U q522 q524 q525 q523 q60 q531) rfl rfl rfl rfl (by decide +kernel) ⟨Nat.le_of_ble_eq_true rfl, Nat.le_of_ble_eq_true rfl⟩) ⟨co_blind, co_recv hK hH (c := 7) (by decide) hq, co_pre hK hH hA hS⟩ rfl rfl hl.1 rfl (lv_room (Nat.le_of_ble_eq_true rfl)) dX0_guess_4 ⟨Nat.le_refl _, Nat.le_refl _⟩) hS (fun r3 M2 H locs hw hH hE4 hS => ?_)
    have hk6 := hE4.k hk_a0 (by decide)
    have hE := hE.tr hE4
    exact r0_guess_7 S hr hlocks hK hA  _ _ _ _ hw hE hk6 _ _ hH hS _ (lv_sub hl [0, 1] rfl)
  · have hw := hw.2.1 hq
    refine co_calli (va_runU (As := []) (rest := []) S (m6_isPlain l g AD M (mP M 115 a0 0) _ hw) (va_cwU (owner := "FarTypewriter$Program") (x := ⟨"FarTypewriter$Program", "isPlain", "()Z"⟩) 0 hts (lw_U q522 q524 q526 q523 q60 q531) rfl rfl rfl rfl (by decide +kernel) ⟨Nat.le_of_ble_eq_true rfl, Nat.le_of_ble_eq_true rfl⟩) ⟨co_blind, co_recv hK hH (c := 10) (by decide) hq, co_pre hK hH hA hS⟩ rfl rfl hl.1 rfl (lv_room (Nat.le_of_ble_eq_true rfl)) dX0_guess_4 ⟨Nat.le_refl _, Nat.le_refl _⟩) hS (fun r89 M88 H locs hw hH hE90 hS => ?_)
    have hk92 := hE90.k hk_a0 (by decide)
    have hE := hE.tr hE90
    exact r0_guess_7 S hr hlocks hK hA  _ _ _ _ hw hE hk92 _ _ hH hS _ (lv_sub hl [0, 1] rfl)
  · have hw := hw.2.2.1 hq
    refine co_calli (va_runU (As := []) (rest := []) S (m11_isPlain l g AD M (mP M 115 a0 0) _ hw) (va_cwO (owner := "FarTypewriter$Program") (x := ⟨"FarTypewriter$Program", "isPlain", "()Z"⟩) 0 hts (lw_O q522 q524 q523 q528 q529 q66 q530) rfl rfl rfl q531 (by decide +kernel) ⟨Nat.le_of_ble_eq_true rfl, Nat.le_of_ble_eq_true rfl⟩) ⟨co_blind, co_recv hK hH (c := 11) (by decide) hq, co_pre hK hH hA hS⟩ rfl rfl hl.1 rfl (lv_room (Nat.le_of_ble_eq_true rfl)) dX0_guess_4 ⟨Nat.le_refl _, Nat.le_refl _⟩) hS (fun r94 M93 H locs hw hH hE95 hS => ?_)
    have hk97 := hE95.k hk_a0 (by decide)
    have hE := hE.tr hE95
    exact r0_guess_7 S hr hlocks hK hA  _ _ _ _ hw hE hk97 _ _ hH hS _ (lv_sub hl [0, 1] rfl)
  · have hw := hw.2.2.2 hq
    refine co_calli (va_runU (As := []) (rest := []) S (m6_isPlain l g AD M (mP M 115 a0 0) _ hw) (va_cwU (owner := "FarTypewriter$Program") (x := ⟨"FarTypewriter$Program", "isPlain", "()Z"⟩) 0 hts (lw_U q522 q524 q527 q523 q60 q531) rfl rfl rfl rfl (by decide +kernel) ⟨Nat.le_of_ble_eq_true rfl, Nat.le_of_ble_eq_true rfl⟩) ⟨co_blind, co_recv hK hH (c := 12) (by decide) hq, co_pre hK hH hA hS⟩ rfl rfl hl.1 rfl (lv_room (Nat.le_of_ble_eq_true rfl)) dX0_guess_4 ⟨Nat.le_refl _, Nat.le_refl _⟩) hS (fun r99 M98 H locs hw hH hE100 hS => ?_)
    have hk102 := hE100.k hk_a0 (by decide)
    have hE := hE.tr hE100
    exact r0_guess_7 S hr hlocks hK hA  _ _ _ _ hw hE hk102 _ _ hH hS _ (lv_sub hl [0, 1] rfl)
