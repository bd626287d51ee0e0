/-! FarTypewriter.made(I)LFarTypewriter$Program; -/
abbrev rm0_made : Room := { frames := 4, cells := 1, slots := 1, locals := 72 }
def w0_made (post : Nat → Mm → Prop) (M : Mm) (x0 : Int32) : Prop :=
  (x0 = 0 → ∀ M29 : Mm, M29 = sN M 8 → (w7_init (fun (M31 : Mm) => post (mZ M) M31) M29 (mZ M))) ∧ (¬ x0 = 0 → (x0 = 1 → ∀ M21 : Mm, M21 = sN M 11 → (w10_init (fun (M23 : Mm) => post (mZ M) M23) M21 (mZ M))) ∧ (¬ x0 = 1 → (x0 = 2 → ∀ M13 : Mm, M13 = sN M 12 → (w11_init (fun (M15 : Mm) => post (mZ M) M15) M13 (mZ M))) ∧ (¬ x0 = 2 → ∀ M5 : Mm, M5 = sN M 13 → (w12_init (fun (M7 : Mm) => post (mZ M) M7) M5 (mZ M)))))
set_option maxHeartbeats 4000000 in
set_option maxRecDepth 100000 in
theorem m0_made (l : Launch) (g : CG) (AD : Nat → Prop) (M : Mm) (x0 : Int32) (post : Nat → Mm → Prop) (hw : w0_made post M x0) : Met l yX0_made (ws_ yX0_made cX0_made 1 (some (.object "FarTypewriter$Program"))) rm0_made (CPc g AD M [.int x0]) (CQr g AD M isPrg post) 1 1 AD := by
  refine Met.ofW (cc := cX0_made) (maxL := 1) (ret := (some (.object "FarTypewriter$Program"))) (by decide) rfl ?_
  intro p e s m args below meth c s₁ B hml hv
  obtain ⟨rfl, hK, hH, hA⟩ := hv
  have hx := B.exec
  have hb := B.bytes
  have hr : meth.sig.returnType = (some (.object "FarTypewriter$Program")) := B.returns
  have hts := atoms_spec (ws := ws_ yX0_made cX0_made 1 (some (.object "FarTypewriter$Program"))) B.pre
  have hts : ∀ w ∈ lw_all, w.before _ s = true := fun w h => hts w (List.mem_cons_of_mem _ h)
  have hown : s.vm.findClass RX0 = some m.cls := findClass_of_methodNamed B.named
  have hlocks : meth.locks = false := B.notSynchronized
  have S : CallFix p m c cX0_made 1 s _ lw_all RX0 := ⟨hx, hb, hml, hown, hts⟩
  have hS : va_S AD s.heap s.heap [] := va_S.rf
  have hE : Ext M M := Ext.rf
  have hl := lv_entry ([.int x0]) (n := 1) (Nat.le_of_ble_eq_true rfl)
  rw [lg_entry_eq]
  generalize (lg_sl ([.int x0]) ++ List.replicate (1 - (lg_sl ([.int x0])).length) Slot.unset).toArray = ls at hl ⊢
  have hl : lv_has ls 1 [(0, .int x0)] := hl
  unfold w0_made at hw
  refine lv_iload_n hx hb dX0_made_0 rfl (lv_at hl 0 rfl) ?_
  refine lv_if_ne (tgt := 14) hx hb dX0_made_1 (by decide) (fun c1 => ?_) (fun c1 => ?_)
  · have hw := hw.2 c1
    refine lv_iload_n hx hb dX0_made_14 rfl (lv_at hl 0 rfl) ?_
    refine lv_iconst (v := 1) hx hb dX0_made_15 (by decide) ?_
    refine lv_icmp_ne (tgt := 29) hx hb dX0_made_16 (by decide) (fun c2 => ?_) (fun c2 => ?_)
    · have hw := hw.2 c2
      refine lv_iload_n hx hb dX0_made_29 rfl (lv_at hl 0 rfl) ?_
      refine lv_iconst (v := 2) hx hb dX0_made_30 (by decide) ?_
      refine lv_icmp_ne (tgt := 44) hx hb dX0_made_31 (by decide) (fun c3 => ?_) (fun c3 => ?_)
      · have hw := hw.2 c3
        have hE4 := Ext.new hH 13
        refine co_new S hK hH hS hA 12 13 (by decide) rfl q385 q386 q67 (by decide) (Nat.le_of_ble_eq_true rfl) (Nat.le_of_ble_eq_true rfl) dX0_made_44 (fun H hH hS => ?_)
        obtain ⟨M5, eM5⟩ : ∃ y : Mm, y = sN M 13 := ⟨_, rfl⟩
        have hw := hw M5 eM5
        rw [← eM5] at hH hE4
        have hE := hE.tr hE4
        have hk6 : mK M5 (mZ M) = 13 := by rw [eM5]; exact mK_new M 13
        refine lv_dup hx hb dX0_made_47 rfl ?_
        refine co_callv (va_runIN (As := []) (rest := [.ref (mZ M)]) S (m12_init l g AD M5 (mZ M) _ hk6 hw) ⟨va_cnB 0 hts (lw_meth q389) rfl rfl rfl (hK.2.2.2.1 _ q387 rfl) (hts _ q67) (by decide +kernel) ⟨Nat.le_of_ble_eq_true rfl, Nat.le_of_ble_eq_true rfl⟩, rfl, hts _ q388⟩ ⟨co_blind, co_pre hK hH hA hS⟩ rfl rfl hl.1 rfl (lv_room (Nat.le_of_ble_eq_true rfl)) dX0_made_48 ⟨(Nat.le_of_ble_eq_true rfl), (Nat.le_of_ble_eq_true rfl)⟩) hS (fun M7 H locs hw hH hE9 hS => ?_)
        have hk11 := hE9.k hk6 (by decide)
        have hE := hE.tr hE9
        refine W.widen (k := 1) (n := 1) (by decide) (by decide) ?_
        exact co_aret S hr hlocks hH hE hS (Or.inr (Or.inr (Or.inr hk11))) hw dX0_made_51
      · have hw := hw.1 c3
        have hE12 := Ext.new hH 12
        refine co_new S hK hH hS hA 11 12 (by decide) rfl q375 q376 q66 (by decide) (Nat.le_of_ble_eq_true rfl) (Nat.le_of_ble_eq_true rfl) dX0_made_34 (fun H hH hS => ?_)
        obtain ⟨M13, eM13⟩ : ∃ y : Mm, y = sN M 12 := ⟨_, rfl⟩
        have hw := hw M13 eM13
        rw [← eM13] at hH hE12
        have hE := hE.tr hE12
        have hk14 : mK M13 (mZ M) = 12 := by rw [eM13]; exact mK_new M 12
        refine lv_dup hx hb dX0_made_37 rfl ?_
        refine co_callv (va_runIN (As := []) (rest := [.ref (mZ M)]) S (m11_init l g AD M13 (mZ M) _ hk14 hw) ⟨va_cnB 0 hts (lw_meth q379) rfl rfl rfl (hK.2.2.2.1 _ q377 rfl) (hts _ q66) (by decide +kernel) ⟨Nat.le_of_ble_eq_true rfl, Nat.le_of_ble_eq_true rfl⟩, rfl, hts _ q378⟩ ⟨co_blind, co_pre hK hH hA hS⟩ rfl rfl hl.1 rfl (lv_room (Nat.le_of_ble_eq_true rfl)) dX0_made_38 ⟨(Nat.le_of_ble_eq_true rfl), (Nat.le_of_ble_eq_true rfl)⟩) hS (fun M15 H locs hw hH hE17 hS => ?_)
        have hk19 := hE17.k hk14 (by decide)
        have hE := hE.tr hE17
        refine lv_goto (tgt := 51) hx hb dX0_made_41 (by decide) ?_
        exact co_aret S hr hlocks hH hE hS (Or.inr (Or.inr (Or.inl hk19))) hw dX0_made_51
    · have hw := hw.1 c2
      have hE20 := Ext.new hH 11
      refine co_new S hK hH hS hA 10 11 (by decide) rfl q368 q369 q65 (by decide) (Nat.le_of_ble_eq_true rfl) (Nat.le_of_ble_eq_true rfl) dX0_made_19 (fun H hH hS => ?_)
      obtain ⟨M21, eM21⟩ : ∃ y : Mm, y = sN M 11 := ⟨_, rfl⟩
      have hw := hw M21 eM21
      rw [← eM21] at hH hE20
      have hE := hE.tr hE20
      have hk22 : mK M21 (mZ M) = 11 := by rw [eM21]; exact mK_new M 11
      refine lv_dup hx hb dX0_made_22 rfl ?_
      refine co_callv (va_runIN (As := []) (rest := [.ref (mZ M)]) S (m10_init l g AD M21 (mZ M) _ hk22 hw) ⟨va_cnB 0 hts (lw_meth q372) rfl rfl rfl (hK.2.2.2.1 _ q370 rfl) (hts _ q65) (by decide +kernel) ⟨Nat.le_of_ble_eq_true rfl, Nat.le_of_ble_eq_true rfl⟩, rfl, hts _ q371⟩ ⟨co_blind, co_pre hK hH hA hS⟩ rfl rfl hl.1 rfl (lv_room (Nat.le_of_ble_eq_true rfl)) dX0_made_23 ⟨(Nat.le_of_ble_eq_true rfl), (Nat.le_of_ble_eq_true rfl)⟩) hS (fun M23 H locs hw hH hE25 hS => ?_)
      have hk27 := hE25.k hk22 (by decide)
      have hE := hE.tr hE25
      refine lv_goto (tgt := 51) hx hb dX0_made_26 (by decide) ?_
      refine W.widen (k := 1) (n := 1) (by decide) (by decide) ?_
      exact co_aret S hr hlocks hH hE hS (Or.inr (Or.inl hk27)) hw dX0_made_51
  · have hw := hw.1 c1
    have hE28 := Ext.new hH 8
    refine co_new S hK hH hS hA 7 8 (by decide) rfl q194 q195 q61 (by decide) (Nat.le_of_ble_eq_true rfl) (Nat.le_of_ble_eq_true rfl) dX0_made_4 (fun H hH hS => ?_)
    obtain ⟨M29, eM29⟩ : ∃ y : Mm, y = sN M 8 := ⟨_, rfl⟩
    have hw := hw M29 eM29
    rw [← eM29] at hH hE28
    have hE := hE.tr hE28
    have hk30 : mK M29 (mZ M) = 8 := by rw [eM29]; exact mK_new M 8
    refine lv_dup hx hb dX0_made_7 rfl ?_
    refine co_callv (va_runIN (As := []) (rest := [.ref (mZ M)]) S (m7_init l g AD M29 (mZ M) _ hw) ⟨va_cnB 0 hts (lw_meth q198) rfl rfl rfl (hK.2.2.2.1 _ q196 rfl) (hts _ q61) (by decide +kernel) ⟨Nat.le_of_ble_eq_true rfl, Nat.le_of_ble_eq_true rfl⟩, rfl, hts _ q197⟩ ⟨co_blind, co_pre hK hH hA hS⟩ rfl rfl hl.1 rfl (lv_room (Nat.le_of_ble_eq_true rfl)) dX0_made_8 ⟨(Nat.le_of_ble_eq_true rfl), (Nat.le_of_ble_eq_true rfl)⟩) hS (fun M31 H locs hw hH hE33 hS => ?_)
    have hk35 := hE33.k hk30 (by decide)
    have hE := hE.tr hE33
    refine lv_goto (tgt := 51) hx hb dX0_made_11 (by decide) ?_
    refine W.widen (k := 1) (n := 1) (by decide) (by decide) ?_
    exact co_aret S hr hlocks hH hE hS (Or.inl hk35) hw dX0_made_51
/-! FarTypewriter.move(II)Z -/
abbrev rm0_move : Room := { frames := 1, cells := 0, slots := 0, locals := 21 }
def w0_move (post : Int32 → Mm → Prop) (M : Mm) (a0 : Nat) (x1 : Int32) (x2 : Int32) : Prop :=
  w5_isCell (fun (r2 : Int32) (M1 : Mm) => (r2 = 0 → post 0 M1) ∧ (¬ r2 = 0 → mK M1 (mP M1 126 a0 0) = 6 ∧ (∀ M8 : Mm, M8 = sI M1 602 (mP M1 126 a0 0) 0 x1 → (mK M8 (mP M8 126 a0 0) = 6 ∧ (∀ M12 : Mm, M12 = sI M8 603 (mP M8 126 a0 0) 0 x2 → (post 1 M12)))))) M x1 x2
set_option maxHeartbeats 4000000 in
set_option maxRecDepth 100000 in
theorem m0_move (l : Launch) (g : CG) (AD : Nat → Prop) (M : Mm) (a0 : Nat) (x1 : Int32) (x2 : Int32) (post : Int32 → Mm → Prop) (hk_a0 : mK M a0 = 1) (hw : w0_move post M a0 x1 x2) : Met l yX0_move (ws_ yX0_move cX0_move 3 (some .boolean)) rm0_move (CPc g AD M [.ref a0, .int x1, .int x2]) (CQi g AD M post) 0 0 AD := by
  refine Met.ofW (cc := cX0_move) (maxL := 3) (ret := (some .boolean)) (by decide) rfl ?_
  intro p e s m args below meth c s₁ B hml hv
  obtain ⟨rfl, hK, hH, hA⟩ := hv
  have hx := B.exec
  have hb := B.bytes
  have hr : meth.sig.returnType = (some .boolean) := B.returns
  have hts := atoms_spec (ws := ws_ yX0_move cX0_move 3 (some .boolean)) B.pre
  have hts : ∀ w ∈ lw_all, w.before _ s = true := fun w h => hts w (List.mem_cons_of_mem _ h)
  have hown : s.vm.findClass RX0 = some m.cls := findClass_of_methodNamed B.named
  have hlocks : meth.locks = false := B.notSynchronized
  have S : CallFix p m c cX0_move 3 s _ lw_all RX0 := ⟨hx, hb, hml, hown, hts⟩
  have hS : va_S AD s.heap s.heap [] := va_S.rf
  have hE : Ext M M := Ext.rf
  have hl := lv_entry ([.ref a0, .int x1, .int x2]) (n := 3) (Nat.le_of_ble_eq_true rfl)
  rw [lg_entry_eq]
  generalize (lg_sl ([.ref a0, .int x1, .int x2]) ++ List.replicate (3 - (lg_sl ([.ref a0, .int x1, .int x2])).length) Slot.unset).toArray = ls at hl ⊢
  have hl : lv_has ls 3 [(0, .ref a0), (1, .int x1), (2, .int x2)] := hl
  unfold w0_move at hw
  refine lv_iload_n hx hb dX0_move_0 rfl (lv_at hl 1 rfl) ?_
  refine lv_iload_n hx hb dX0_move_1 rfl (lv_at hl 2 rfl) ?_
  refine co_calli (va_runS (As := [.int x1, .int x2]) (rest := []) S (m5_isCell l g AD M x1 x2 _ hw) (va_cwS 2 hts (lw_S q424 q425 q59 q426) rfl rfl rfl (by decide +kernel) ⟨Nat.le_of_ble_eq_true rfl, Nat.le_of_ble_eq_true rfl⟩) ⟨co_blind, co_pre hK hH hA hS⟩ rfl rfl hl.1 rfl (lv_room (Nat.le_of_ble_eq_true rfl)) dX0_move_2 ⟨Nat.le_refl _, Nat.le_refl _⟩) hS (fun r2 M1 H locs hw hH hE3 hS => ?_)
  have hk5 := hE3.k hk_a0 (by decide)
  have hE := hE.tr hE3
  refine lv_if_ne (tgt := 10) hx hb dX0_move_5 (by decide) (fun c6 => ?_) (fun c6 => ?_)
  · have hw := hw.2 c6
    refine lv_aload_n hx hb dX0_move_10 rfl (lv_at hl 0 rfl) ?_
    have hk7 := hw.1
    have hw := hw.2
    refine co_getr S hK hH 0 26 126 (by decide) ⟨by decide, rfl, rfl, rfl⟩ (Or.inl q287) hk5 (by rw [hk7]; decide) dX0_move_11 ?_
    refine lv_iload_n hx hb dX0_move_14 rfl (lv_at hl 1 rfl) ?_
    refine co_puti S hK hH hS 5 2 602 (by decide) ⟨by decide, rfl, rfl, rfl, rfl⟩ (Or.inr ⟨_, q156⟩) hk7 ⟨rfl, rfl⟩ dX0_move_15 (fun H locs hH hS => ?_)
    obtain ⟨M8, eM8⟩ : ∃ y : Mm, y = sI M1 602 (mP M1 126 a0 0) 0 x1 := ⟨_, rfl⟩
    have hw := hw M8 eM8
    rw [← eM8] at hH
    have hE9 : Ext M1 M8 := by rw [eM8]; exact Ext.sI
    have hk10 := hE9.k hk5 (by decide)
    have hE := hE.tr hE9
    refine lv_aload_n hx hb dX0_move_18 rfl (lv_at hl 0 rfl) ?_
    have hk11 := hw.1
    have hw := hw.2
    refine co_getr S hK hH 0 26 126 (by decide) ⟨by decide, rfl, rfl, rfl⟩ (Or.inl q287) hk10 (by rw [hk11]; decide) dX0_move_19 ?_
    refine lv_iload_n hx hb dX0_move_22 rfl (lv_at hl 2 rfl) ?_
    refine co_puti S hK hH hS 5 3 603 (by decide) ⟨by decide, rfl, rfl, rfl, rfl⟩ (Or.inr ⟨_, q161⟩) hk11 ⟨rfl, rfl⟩ dX0_move_23 (fun H locs hH hS => ?_)
    obtain ⟨M12, eM12⟩ : ∃ y : Mm, y = sI M8 603 (mP M8 126 a0 0) 0 x2 := ⟨_, rfl⟩
    have hw := hw M12 eM12
    rw [← eM12] at hH
    have hE13 : Ext M8 M12 := by rw [eM12]; exact Ext.sI
    have hk14 := hE13.k hk10 (by decide)
    have hE := hE.tr hE13
    refine lv_iconst (v := 1) hx hb dX0_move_26 (by decide) ?_
    exact co_zret S hr hlocks hH hE hS rfl hw dX0_move_27
  · have hw := hw.1 c6
    refine lv_iconst (v := 0) hx hb dX0_move_8 (by decide) ?_
    exact co_zret S hr hlocks hH hE hS rfl hw dX0_move_9
/-! FarTypewriter.open(III)Z -/
abbrev rm0_open : Room := { frames := 5, cells := 20, slots := 405, locals := 244 }
def w0_open (post : Int32 → Mm → Prop) (M : Mm) (a0 : Nat) (x1 : Int32) (x2 : Int32) (x3 : Int32) : Prop :=
  (x1 < 0 → post 0 M) ∧ (¬ x1 < 0 → (3 < x1 → post 0 M) ∧ (¬ 3 < x1 → (x2 < 1 → post 0 M) ∧ (¬ x2 < 1 → (20 < x2 → post 0 M) ∧ (¬ 20 < x2 → (x3 < x2 → post 0 M) ∧ (¬ x3 < x2 → (x3 ≤ 50 → w0_begin (fun (M7 : Mm) => ∀ M12 : Mm, M12 = sI M7 116 a0 0 x1 → (w0_made (fun (r16 : Nat) (M15 : Mm) => ∀ M20 : Mm, M20 = sP M15 115 a0 0 r16 → (∀ M23 : Mm, M23 = sI M20 100 a0 0 x2 → (∀ M26 : Mm, M26 = sI M23 101 a0 0 x3 → (post 1 M26)))) M12 x1)) M a0) ∧ (¬ x3 ≤ 50 → post 0 M))))))
set_option maxHeartbeats 4000000 in
set_option maxRecDepth 100000 in
theorem m0_open (l : Launch) (g : CG) (AD : Nat → Prop) (M : Mm) (a0 : Nat) (x1 : Int32) (x2 : Int32) (x3 : Int32) (post : Int32 → Mm → Prop) (hk_a0 : mK M a0 = 1) (hw : w0_open post M a0 x1 x2 x3) : Met l yX0_open (ws_ yX0_open cX0_open 4 (some .boolean)) rm0_open (CPc g AD M [.ref a0, .int x1, .int x2, .int x3]) (CQi g AD M post) 20 405 AD := by
  refine Met.ofW (cc := cX0_open) (maxL := 4) (ret := (some .boolean)) (by decide) rfl ?_
  intro p e s m args below meth c s₁ B hml hv
  obtain ⟨rfl, hK, hH, hA⟩ := hv
  have hx := B.exec
  have hb := B.bytes
  have hr : meth.sig.returnType = (some .boolean) := B.returns
  have hts := atoms_spec (ws := ws_ yX0_open cX0_open 4 (some .boolean)) B.pre
  have hts : ∀ w ∈ lw_all, w.before _ s = true := fun w h => hts w (List.mem_cons_of_mem _ h)
  have hown : s.vm.findClass RX0 = some m.cls := findClass_of_methodNamed B.named
  have hlocks : meth.locks = false := B.notSynchronized
  have S : CallFix p m c cX0_open 4 s _ lw_all RX0 := ⟨hx, hb, hml, hown, hts⟩
  have hS : va_S AD s.heap s.heap [] := va_S.rf
  have hE : Ext M M := Ext.rf
  have hl := lv_entry ([.ref a0, .int x1, .int x2, .int x3]) (n := 4) (Nat.le_of_ble_eq_true rfl)
  rw [lg_entry_eq]
  generalize (lg_sl ([.ref a0, .int x1, .int x2, .int x3]) ++ List.replicate (4 - (lg_sl ([.ref a0, .int x1, .int x2, .int x3])).length) Slot.unset).toArray = ls at hl ⊢
  have hl : lv_has ls 4 [(0, .ref a0), (1, .int x1), (2, .int x2), (3, .int x3)] := hl
  unfold w0_open at hw
  refine lv_iload_n hx hb dX0_open_0 rfl (lv_at hl 1 rfl) ?_
  refine lv_if_lt (tgt := 31) hx hb dX0_open_1 (by decide) (fun c1 => ?_) (fun c1 => ?_)
  · have hw := hw.1 c1
    refine lv_iconst (v := 0) hx hb dX0_open_31 (by decide) ?_
    refine W.widen (k := 20) (n := 405) (by decide) (by decide) ?_
    exact co_zret S hr hlocks hH hE hS rfl hw dX0_open_32
  · have hw := hw.2 c1
    refine lv_iload_n hx hb dX0_open_4 rfl (lv_at hl 1 rfl) ?_
    refine lv_iconst (v := 3) hx hb dX0_open_5 (by decide) ?_
    refine lv_icmp_gt (tgt := 31) hx hb dX0_open_6 (by decide) (fun c2 => ?_) (fun c2 => ?_)
    · have hw := hw.1 c2
      refine lv_iconst (v := 0) hx hb dX0_open_31 (by decide) ?_
      refine W.widen (k := 20) (n := 405) (by decide) (by decide) ?_
      exact co_zret S hr hlocks hH hE hS rfl hw dX0_open_32
    · have hw := hw.2 c2
      refine lv_iload_n hx hb dX0_open_9 rfl (lv_at hl 2 rfl) ?_
      refine lv_iconst (v := 1) hx hb dX0_open_10 (by decide) ?_
      refine lv_icmp_lt (tgt := 31) hx hb dX0_open_11 (by decide) (fun c3 => ?_) (fun c3 => ?_)
      · have hw := hw.1 c3
        refine lv_iconst (v := 0) hx hb dX0_open_31 (by decide) ?_
        refine W.widen (k := 20) (n := 405) (by decide) (by decide) ?_
        exact co_zret S hr hlocks hH hE hS rfl hw dX0_open_32
      · have hw := hw.2 c3
        refine lv_iload_n hx hb dX0_open_14 rfl (lv_at hl 2 rfl) ?_
        refine lv_bipush (v := 20) hx hb dX0_open_15 (by decide) ?_
        refine lv_icmp_gt (tgt := 31) hx hb dX0_open_17 (by decide) (fun c4 => ?_) (fun c4 => ?_)
        · have hw := hw.1 c4
          refine lv_iconst (v := 0) hx hb dX0_open_31 (by decide) ?_
          refine W.widen (k := 20) (n := 405) (by decide) (by decide) ?_
          exact co_zret S hr hlocks hH hE hS rfl hw dX0_open_32
        · have hw := hw.2 c4
          refine lv_iload_n hx hb dX0_open_20 rfl (lv_at hl 3 rfl) ?_
          refine lv_iload_n hx hb dX0_open_21 rfl (lv_at hl 2 rfl) ?_
          refine lv_icmp_lt (tgt := 31) hx hb dX0_open_22 (by decide) (fun c5 => ?_) (fun c5 => ?_)
          · have hw := hw.1 c5
            refine lv_iconst (v := 0) hx hb dX0_open_31 (by decide) ?_
            refine W.widen (k := 20) (n := 405) (by decide) (by decide) ?_
            exact co_zret S hr hlocks hH hE hS rfl hw dX0_open_32
          · have hw := hw.2 c5
            refine lv_iload_n hx hb dX0_open_25 rfl (lv_at hl 3 rfl) ?_
            refine lv_bipush (v := 50) hx hb dX0_open_26 (by decide) ?_
            refine lv_icmp_le (tgt := 33) hx hb dX0_open_28 (by decide) (fun c6 => ?_) (fun c6 => ?_)
            · have hw := hw.1 c6
              refine lv_aload_n hx hb dX0_open_33 rfl (lv_at hl 0 rfl) ?_
              refine co_callv (va_runV (As := []) (rest := []) S (m0_begin l g AD M a0 _ hk_a0 hw) (cwV 0 hts (lw_V q242 q244 qs0 q54 q245) rfl rfl rfl (by decide +kernel) ⟨Nat.le_of_ble_eq_true rfl, Nat.le_of_ble_eq_true rfl⟩) ⟨co_blind, co_recv hK hH (c := 0) (by decide) hk_a0, co_pre hK hH hA hS⟩ rfl rfl hl.1 rfl (lv_room (Nat.le_of_ble_eq_true rfl)) dX0_open_34 ⟨(Nat.le_of_ble_eq_true rfl), (Nat.le_of_ble_eq_true rfl)⟩) hS (fun M7 H locs hw hH hE9 hS => ?_)
              have hk11 := hE9.k hk_a0 (by decide)
              have hE := hE.tr hE9
              refine lv_aload_n hx hb dX0_open_37 rfl (lv_at hl 0 rfl) ?_
              refine lv_iload_n hx hb dX0_open_38 rfl (lv_at hl 1 rfl) ?_
              refine co_puti S hK hH hS 0 16 116 (by decide) ⟨by decide, rfl, rfl, rfl, rfl⟩ (Or.inl q277) hk11 ⟨rfl, rfl⟩ dX0_open_39 (fun H locs hH hS => ?_)
              obtain ⟨M12, eM12⟩ : ∃ y : Mm, y = sI M7 116 a0 0 x1 := ⟨_, rfl⟩
              have hw := hw M12 eM12
              rw [← eM12] at hH
              have hE13 : Ext M7 M12 := by rw [eM12]; exact Ext.sI
              have hk14 := hE13.k hk11 (by decide)
              have hE := hE.tr hE13
              refine lv_aload_n hx hb dX0_open_42 rfl (lv_at hl 0 rfl) ?_
              refine lv_iload_n hx hb dX0_open_43 rfl (lv_at hl 1 rfl) ?_
              refine co_callr (va_runS (As := [.int x1]) (rest := [.ref a0]) S (m0_made l g AD M12 x1 _ hw) (va_cwS 1 hts (lw_S q365 q366 q54 q367) rfl rfl rfl (by decide +kernel) ⟨Nat.le_of_ble_eq_true rfl, Nat.le_of_ble_eq_true rfl⟩) ⟨co_blind, co_pre hK hH hA hS⟩ rfl rfl hl.1 rfl (lv_room (Nat.le_of_ble_eq_true rfl)) dX0_open_44 ⟨(Nat.le_of_ble_eq_true rfl), (Nat.le_of_ble_eq_true rfl)⟩) hS (fun r16 M15 H locs hw hH hE17 hk18 hS => ?_)
              have hk19 := hE17.k hk14 (by decide)
              have hE := hE.tr hE17
              have hk18 : isPrg (mK M15 r16) := hk18
              refine co_putr S hK hH hS 0 15 115 (by decide) ⟨by decide, rfl, rfl, rfl, rfl⟩ (Or.inl q276) hk19 hk18.ne ⟨rfl, rfl⟩ dX0_open_47 (fun H locs hH hS => ?_)
              obtain ⟨M20, eM20⟩ : ∃ y : Mm, y = sP M15 115 a0 0 r16 := ⟨_, rfl⟩
              have hw := hw M20 eM20
              rw [← eM20] at hH
              have hE21 : Ext M15 M20 := by rw [eM20]; exact Ext.sP
              have hk22 := hE21.k hk19 (by decide)
              have hE := hE.tr hE21
              refine lv_aload_n hx hb dX0_open_50 rfl (lv_at hl 0 rfl) ?_
              refine lv_iload_n hx hb dX0_open_51 rfl (lv_at hl 2 rfl) ?_
              refine co_puti S hK hH hS 0 0 100 (by decide) ⟨by decide, rfl, rfl, rfl, rfl⟩ (Or.inl q261) hk22 ⟨rfl, rfl⟩ dX0_open_52 (fun H locs hH hS => ?_)
              obtain ⟨M23, eM23⟩ : ∃ y : Mm, y = sI M20 100 a0 0 x2 := ⟨_, rfl⟩
              have hw := hw M23 eM23
              rw [← eM23] at hH
              have hE24 : Ext M20 M23 := by rw [eM23]; exact Ext.sI
              have hk25 := hE24.k hk22 (by decide)
              have hE := hE.tr hE24
              refine lv_aload_n hx hb dX0_open_55 rfl (lv_at hl 0 rfl) ?_
              refine lv_iload_n hx hb dX0_open_56 rfl (lv_at hl 3 rfl) ?_
              refine co_puti S hK hH hS 0 1 101 (by decide) ⟨by decide, rfl, rfl, rfl, rfl⟩ (Or.inl q262) hk25 ⟨rfl, rfl⟩ dX0_open_57 (fun H locs hH hS => ?_)
              obtain ⟨M26, eM26⟩ : ∃ y : Mm, y = sI M23 101 a0 0 x3 := ⟨_, rfl⟩
              have hw := hw M26 eM26
              rw [← eM26] at hH
              have hE27 : Ext M23 M26 := by rw [eM26]; exact Ext.sI
              have hk28 := hE27.k hk25 (by decide)
              have hE := hE.tr hE27
              refine lv_iconst (v := 1) hx hb dX0_open_60 (by decide) ?_
              exact co_zret S hr hlocks hH hE hS rfl hw dX0_open_61
            · have hw := hw.2 c6
              refine lv_iconst (v := 0) hx hb dX0_open_31 (by decide) ?_
              refine W.widen (k := 20) (n := 405) (by decide) (by decide) ?_
              exact co_zret S hr hlocks hH hE hS rfl hw dX0_open_32
/-! FarTypewriter.pen(I)I -/
abbrev rm0_pen : Room := { frames := 0, cells := 0, slots := 0, locals := 0 }
def w0_pen (post : Int32 → Mm → Prop) (M : Mm) (a0 : Nat) (x1 : Int32) : Prop :=
  (x1 < 0 → post (-1) M) ∧ (¬ x1 < 0 → (x1 ≤ 3 → ∀ y2_3 : Int32, y2_3 = mI M 117 a0 0 → (∀ M4 : Mm, M4 = sI M 117 a0 0 x1 → (post y2_3 M4))) ∧ (¬ x1 ≤ 3 → post (-1) M))
set_option maxHeartbeats 4000000 in
set_option maxRecDepth 100000 in
theorem m0_pen (l : Launch) (g : CG) (AD : Nat → Prop) (M : Mm) (a0 : Nat) (x1 : Int32) (post : Int32 → Mm → Prop) (hk_a0 : mK M a0 = 1) (hw : w0_pen post M a0 x1) : Met l yX0_pen (ws_ yX0_pen cX0_pen 3 (some .int)) rm0_pen (CPc g AD M [.ref a0, .int x1]) (CQi g AD M post) 0 0 AD := by
  refine Met.ofW (cc := cX0_pen) (maxL := 3) (ret := (some .int)) (by decide) rfl ?_
  intro p e s m args below meth c s₁ B hml hv
  obtain ⟨rfl, hK, hH, hA⟩ := hv
  have hx := B.exec
  have hb := B.bytes
  have hr : meth.sig.returnType = (some .int) := B.returns
  have hts := atoms_spec (ws := ws_ yX0_pen cX0_pen 3 (some .int)) B.pre
  have hts : ∀ w ∈ lw_all, w.before _ s = true := fun w h => hts w (List.mem_cons_of_mem _ h)
  have hown : s.vm.findClass RX0 = some m.cls := findClass_of_methodNamed B.named
  have hlocks : meth.locks = false := B.notSynchronized
  have S : CallFix p m c cX0_pen 3 s _ lw_all RX0 := ⟨hx, hb, hml, hown, hts⟩
  have hS : va_S AD s.heap s.heap [] := va_S.rf
  have hE : Ext M M := Ext.rf
  have hl := lv_entry ([.ref a0, .int x1]) (n := 3) (Nat.le_of_ble_eq_true rfl)
  rw [lg_entry_eq]
  generalize (lg_sl ([.ref a0, .int x1]) ++ List.replicate (3 - (lg_sl ([.ref a0, .int x1])).length) Slot.unset).toArray = ls at hl ⊢
  have hl : lv_has ls 3 [(0, .ref a0), (1, .int x1)] := hl
  unfold w0_pen at hw
  refine lv_iload_n hx hb dX0_pen_0 rfl (lv_at hl 1 rfl) ?_
  refine lv_if_lt (tgt := 9) hx hb dX0_pen_1 (by decide) (fun c1 => ?_) (fun c1 => ?_)
  · have hw := hw.1 c1
    refine lv_iconst (v := (-1)) hx hb dX0_pen_9 (by decide) ?_
    exact co_iret S hr hlocks hH hE hS hw dX0_pen_10
  · have hw := hw.2 c1
    refine lv_iload_n hx hb dX0_pen_4 rfl (lv_at hl 1 rfl) ?_
    refine lv_iconst (v := 3) hx hb dX0_pen_5 (by decide) ?_
    refine lv_icmp_le (tgt := 11) hx hb dX0_pen_6 (by decide) (fun c2 => ?_) (fun c2 => ?_)
    · have hw := hw.1 c2
      refine lv_aload_n hx hb dX0_pen_11 rfl (lv_at hl 0 rfl) ?_
      refine co_geti S hK hH 0 17 117 (by decide) ⟨by decide, rfl, rfl, rfl⟩ (Or.inl q278) hk_a0 dX0_pen_12 ?_
      refine lv_topi (fun y2_3 ey2_3 => ?_)
      have hw := hw y2_3 ey2_3
      refine lv_istore_n (lv' := [(2, .int y2_3), (0, .ref a0), (1, .int x1)]) hx hb dX0_pen_15 rfl hl (by decide) rfl (fun ls hl => ?_)
      refine lv_aload_n hx hb dX0_pen_16 rfl (lv_at hl 1 rfl) ?_
      refine lv_iload_n hx hb dX0_pen_17 rfl (lv_at hl 2 rfl) ?_
      refine co_puti S hK hH hS 0 17 117 (by decide) ⟨by decide, rfl, rfl, rfl, rfl⟩ (Or.inl q278) hk_a0 ⟨rfl, rfl⟩ dX0_pen_18 (fun H locs hH hS => ?_)
      obtain ⟨M4, eM4⟩ : ∃ y : Mm, y = sI M 117 a0 0 x1 := ⟨_, rfl⟩
      have hw := hw M4 eM4
      rw [← eM4] at hH
      have hE5 : Ext M M4 := by rw [eM4]; exact Ext.sI
      have hk6 := hE5.k hk_a0 (by decide)
      have hE := hE.tr hE5
      refine lv_iload_n hx hb dX0_pen_21 rfl (lv_at hl 0 rfl) ?_
      exact co_iret S hr hlocks hH hE hS hw dX0_pen_22
    · have hw := hw.2 c2
      refine lv_iconst (v := (-1)) hx hb dX0_pen_9 (by decide) ?_
      exact co_iret S hr hlocks hH hE hS hw dX0_pen_10
/-! FarTypewriter.program(I)I -/
abbrev rm0_program : Room := { frames := 5, cells := 1, slots := 1, locals := 92 }
def w0_program (post : Int32 → Mm → Prop) (M : Mm) (a0 : Nat) (x1 : Int32) : Prop :=
  (x1 < 0 → post (-1) M) ∧ (¬ x1 < 0 → (x1 ≤ 3 → ∀ y2_3 : Int32, y2_3 = mI M 116 a0 0 → (∀ M4 : Mm, M4 = sI M 116 a0 0 x1 → (w0_made (fun (r8 : Nat) (M7 : Mm) => ∀ M12 : Mm, M12 = sP M7 115 a0 0 r8 → (post y2_3 M12)) M4 x1))) ∧ (¬ x1 ≤ 3 → post (-1) M))
set_option maxHeartbeats 4000000 in
set_option maxRecDepth 100000 in
theorem m0_program (l : Launch) (g : CG) (AD : Nat → Prop) (M : Mm) (a0 : Nat) (x1 : Int32) (post : Int32 → Mm → Prop) (hk_a0 : mK M a0 = 1) (hw : w0_program post M a0 x1) : Met l yX0_program (ws_ yX0_program cX0_program 3 (some .int)) rm0_program (CPc g AD M [.ref a0, .int x1]) (CQi g AD M post) 1 1 AD := by
  refine Met.ofW (cc := cX0_program) (maxL := 3) (ret := (some .int)) (by decide) rfl ?_
  intro p e s m args below meth c s₁ B hml hv
  obtain ⟨rfl, hK, hH, hA⟩ := hv
  have hx := B.exec
  have hb := B.bytes
  have hr : meth.sig.returnType = (some .int) := B.returns
  have hts := atoms_spec (ws := ws_ yX0_program cX0_program 3 (some .int)) B.pre
  have hts : ∀ w ∈ lw_all, w.before _ s = true := fun w h => hts w (List.mem_cons_of_mem _ h)
  have hown : s.vm.findClass RX0 = some m.cls := findClass_of_methodNamed B.named
  have hlocks : meth.locks = false := B.notSynchronized
  have S : CallFix p m c cX0_program 3 s _ lw_all RX0 := ⟨hx, hb, hml, hown, hts⟩
  have hS : va_S AD s.heap s.heap [] := va_S.rf
  have hE : Ext M M := Ext.rf
  have hl := lv_entry ([.ref a0, .int x1]) (n := 3) (Nat.le_of_ble_eq_true rfl)
  rw [lg_entry_eq]
  generalize (lg_sl ([.ref a0, .int x1]) ++ List.replicate (3 - (lg_sl ([.ref a0, .int x1])).length) Slot.unset).toArray = ls at hl ⊢
  have hl : lv_has ls 3 [(0, .ref a0), (1, .int x1)] := hl
  unfold w0_program at hw
  refine lv_iload_n hx hb dX0_program_0 rfl (lv_at hl 1 rfl) ?_
  refine lv_if_lt (tgt := 9) hx hb dX0_program_1 (by decide) (fun c1 => ?_) (fun c1 => ?_)
  · have hw := hw.1 c1
    refine lv_iconst (v := (-1)) hx hb dX0_program_9 (by decide) ?_
    refine W.widen (k := 1) (n := 1) (by decide) (by decide) ?_
    exact co_iret S hr hlocks hH hE hS hw dX0_program_10
  · have hw := hw.2 c1
    refine lv_iload_n hx hb dX0_program_4 rfl (lv_at hl 1 rfl) ?_
    refine lv_iconst (v := 3) hx hb dX0_program_5 (by decide) ?_
    refine lv_icmp_le (tgt := 11) hx hb dX0_program_6 (by decide) (fun c2 => ?_) (fun c2 => ?_)
    · have hw := hw.1 c2
      refine lv_aload_n hx hb dX0_program_11 rfl (lv_at hl 0 rfl) ?_
      refine co_geti S hK hH 0 16 116 (by decide) ⟨by decide, rfl, rfl, rfl⟩ (Or.inl q277) hk_a0 dX0_program_12 ?_
      refine lv_topi (fun y2_3 ey2_3 => ?_)
      have hw := hw y2_3 ey2_3
      refine lv_istore_n (lv' := [(2, .int y2_3), (0, .ref a0), (1, .int x1)]) hx hb dX0_program_15 rfl hl (by decide) rfl (fun ls hl => ?_)
      refine lv_aload_n hx hb dX0_program_16 rfl (lv_at hl 1 rfl) ?_
      refine lv_iload_n hx hb dX0_program_17 rfl (lv_at hl 2 rfl) ?_
      refine co_puti S hK hH hS 0 16 116 (by decide) ⟨by decide, rfl, rfl, rfl, rfl⟩ (Or.inl q277) hk_a0 ⟨rfl, rfl⟩ dX0_program_18 (fun H locs hH hS => ?_)
      obtain ⟨M4, eM4⟩ : ∃ y : Mm, y = sI M 116 a0 0 x1 := ⟨_, rfl⟩
      have hw := hw M4 eM4
      rw [← eM4] at hH
      have hE5 : Ext M M4 := by rw [eM4]; exact Ext.sI
      have hk6 := hE5.k hk_a0 (by decide)
      have hE := hE.tr hE5
      refine lv_aload_n hx hb dX0_program_21 rfl (lv_at hl 1 rfl) ?_
      refine lv_iload_n hx hb dX0_program_22 rfl (lv_at hl 2 rfl) ?_
      refine co_callr (va_runS (As := [.int x1]) (rest := [.ref a0]) S (m0_made l g AD M4 x1 _ hw) (va_cwS 1 hts (lw_S q365 q366 q54 q367) rfl rfl rfl (by decide +kernel) ⟨Nat.le_of_ble_eq_true rfl, Nat.le_of_ble_eq_true rfl⟩) ⟨co_blind, co_pre hK hH hA hS⟩ rfl rfl hl.1 rfl (lv_room (Nat.le_of_ble_eq_true rfl)) dX0_program_23 ⟨(Nat.le_of_ble_eq_true rfl), (Nat.le_of_ble_eq_true rfl)⟩) hS (fun r8 M7 H locs hw hH hE9 hk10 hS => ?_)
      have hk11 := hE9.k hk6 (by decide)
      have hE := hE.tr hE9
      have hk10 : isPrg (mK M7 r8) := hk10
      refine co_putr S hK hH hS 0 15 115 (by decide) ⟨by decide, rfl, rfl, rfl, rfl⟩ (Or.inl q276) hk11 hk10.ne ⟨rfl, rfl⟩ dX0_program_26 (fun H locs hH hS => ?_)
      obtain ⟨M12, eM12⟩ : ∃ y : Mm, y = sP M7 115 a0 0 r8 := ⟨_, rfl⟩
      have hw := hw M12 eM12
      rw [← eM12] at hH
      have hE13 : Ext M7 M12 := by rw [eM12]; exact Ext.sP
      have hk14 := hE13.k hk11 (by decide)
      have hE := hE.tr hE13
      refine lv_iload_n hx hb dX0_program_29 rfl (lv_at hl 0 rfl) ?_
      exact co_iret S hr hlocks hH hE hS hw dX0_program_30
    · have hw := hw.2 c2
      refine lv_iconst (v := (-1)) hx hb dX0_program_9 (by decide) ?_
      refine W.widen (k := 1) (n := 1) (by decide) (by decide) ?_
      exact co_iret S hr hlocks hH hE hS hw dX0_program_10
/-! FarTypewriter.roam()I -/
abbrev rm0_roam : Room := { frames := 0, cells := 0, slots := 0, locals := 0 }
def w0_roam_21 (post : Int32 → Mm → Prop)  (M : Mm) (a0 : Nat) (t0 : Int32) (b1 : Nat) : Prop :=
  ∀ M2 : Mm, M2 = sI M 111 b1 0 t0 → (∀ M5 : Mm, M5 = sI M2 113 a0 0 1 → (post (mI M5 111 a0 0) M5))
set_option maxHeartbeats 4000000 in
set_option maxRecDepth 100000 in
theorem r0_roam_21 {p : Program} {l : Launch} {e : Env} {s : State} {m : MethodId} {args : Array Value} {below : List Frame} {meth : Method} {c : Code} {g : CG} {AD : Nat → Prop} {M0 : Mm} (S : CallFix p m c cX0_roam 1 s args lw_all RX0) (hr : meth.sig.returnType = (some .int)) (hlocks : meth.locks = false) (hK : KC g s) (hA : ∀ q, s.heap.size ≤ q → AD q) {post : Int32 → Mm → Prop}  : ∀ (M : Mm) (a0 : Nat) (t0 : Int32) (b1 : Nat), w0_roam_21 post  M a0 t0 b1 → Ext M0 M → mK M a0 = 1 → mK M b1 = 1 → ∀ (H : Heap) (locs : List Loc), HC g AD M H → va_S AD s.heap H locs → ∀ (ls : Array Slot), lv_has ls 1 [(0, .ref a0)] → W p l e rm0_roam s m args below meth c H locs 0 0 (MQ below (CQi g AD M0 post) args s 0 0 AD) (F0 m 21 ls [.int t0, .ref b1]) := by
  have hx := S.1
  have hb := S.2.1
  have hown := S.2.2.2.1
  have hts := S.2.2.2.2
  intro M a0 t0 b1 hw hE hk_a0 hk_b1 H locs hH hS ls hl
  unfold w0_roam_21 at hw
  refine co_puti S hK hH hS 0 11 111 (by decide) ⟨by decide, rfl, rfl, rfl, rfl⟩ (Or.inl q272) hk_b1 ⟨rfl, rfl⟩ dX0_roam_21 (fun H locs hH hS => ?_)
  obtain ⟨M2, eM2⟩ : ∃ y : Mm, y = sI M 111 b1 0 t0 := ⟨_, rfl⟩
  have hw := hw M2 eM2
  rw [← eM2] at hH
  have hE3 : Ext M M2 := by rw [eM2]; exact Ext.sI
  have hk4 := hE3.k hk_a0 (by decide)
  have hE := hE.tr hE3
  refine lv_aload_n hx hb dX0_roam_24 rfl (lv_at hl 0 rfl) ?_
  refine lv_iconst (v := 1) hx hb dX0_roam_25 (by decide) ?_
  refine co_puti S hK hH hS 0 13 113 (by decide) ⟨by decide, rfl, rfl, rfl, rfl⟩ (Or.inl q274) hk4 ⟨rfl, rfl⟩ dX0_roam_26 (fun H locs hH hS => ?_)
  obtain ⟨M5, eM5⟩ : ∃ y : Mm, y = sI M2 113 a0 0 1 := ⟨_, rfl⟩
  have hw := hw M5 eM5
  rw [← eM5] at hH
  have hE6 : Ext M2 M5 := by rw [eM5]; exact Ext.sI
  have hk7 := hE6.k hk4 (by decide)
  have hE := hE.tr hE6
  refine lv_aload_n hx hb dX0_roam_29 rfl (lv_at hl 0 rfl) ?_
  refine co_geti S hK hH 0 11 111 (by decide) ⟨by decide, rfl, rfl, rfl⟩ (Or.inl q272) hk7 dX0_roam_30 ?_
  exact co_iret S hr hlocks hH hE hS hw dX0_roam_33
def w0_roam (post : Int32 → Mm → Prop) (M : Mm) (a0 : Nat) : Prop :=
  ((mI M 111 a0 0) = 255 → w0_roam_21 post M a0 1 a0) ∧ (¬ (mI M 111 a0 0) = 255 → w0_roam_21 post M a0 ((mI M 111 a0 0) + 1) a0)
set_option maxHeartbeats 4000000 in
set_option maxRecDepth 100000 in
theorem m0_roam (l : Launch) (g : CG) (AD : Nat → Prop) (M : Mm) (a0 : Nat) (post : Int32 → Mm → Prop) (hk_a0 : mK M a0 = 1) (hw : w0_roam post M a0) : Met l yX0_roam (ws_ yX0_roam cX0_roam 1 (some .int)) rm0_roam (CPc g AD M [.ref a0]) (CQi g AD M post) 0 0 AD := by
  refine Met.ofW (cc := cX0_roam) (maxL := 1) (ret := (some .int)) (by decide) rfl ?_
  intro p e s m args below meth c s₁ B hml hv
  obtain ⟨rfl, hK, hH, hA⟩ := hv
  have hx := B.exec
  have hb := B.bytes
  have hr : meth.sig.returnType = (some .int) := B.returns
  have hts := atoms_spec (ws := ws_ yX0_roam cX0_roam 1 (some .int)) B.pre
  have hts : ∀ w ∈ lw_all, w.before _ s = true := fun w h => hts w (List.mem_cons_of_mem _ h)
  have hown : s.vm.findClass RX0 = some m.cls := findClass_of_methodNamed B.named
  have hlocks : meth.locks = false := B.notSynchronized
  have S : CallFix p m c cX0_roam 1 s _ lw_all RX0 := ⟨hx, hb, hml, hown, hts⟩
  have hS : va_S AD s.heap s.heap [] := va_S.rf
  have hE : Ext M M := Ext.rf
  have hl := lv_entry ([.ref a0]) (n := 1) (Nat.le_of_ble_eq_true rfl)
  rw [lg_entry_eq]
  generalize (lg_sl ([.ref a0]) ++ List.replicate (1 - (lg_sl ([.ref a0])).length) Slot.unset).toArray = ls at hl ⊢
  have hl : lv_has ls 1 [(0, .ref a0)] := hl
  unfold w0_roam at hw
  refine lv_aload_n hx hb dX0_roam_0 rfl (lv_at hl 0 rfl) ?_
  refine lv_aload_n hx hb dX0_roam_1 rfl (lv_at hl 0 rfl) ?_
  refine co_geti S hK hH 0 11 111 (by decide) ⟨by decide, rfl, rfl, rfl⟩ (Or.inl q272) hk_a0 dX0_roam_2 ?_
  refine lv_sipush (v := 255) hx hb dX0_roam_5 (by decide) ?_
  refine lv_icmp_ne (tgt := 15) hx hb dX0_roam_8 (by decide) (fun c1 => ?_) (fun c1 => ?_)
  · have hw := hw.2 c1
    refine lv_aload_n hx hb dX0_roam_15 rfl (lv_at hl 0 rfl) ?_
    refine co_geti S hK hH 0 11 111 (by decide) ⟨by decide, rfl, rfl, rfl⟩ (Or.inl q272) hk_a0 dX0_roam_16 ?_
    refine lv_iconst (v := 1) hx hb dX0_roam_19 (by decide) ?_
    refine lv_iadd hx hb dX0_roam_20 ?_
    exact r0_roam_21 S hr hlocks hK hA  _ _ _ _ hw hE hk_a0 hk_a0 _ _ hH hS _ (lv_sub hl [0] rfl)
  · have hw := hw.1 c1
    refine lv_iconst (v := 1) hx hb dX0_roam_11 (by decide) ?_
    refine lv_goto (tgt := 21) hx hb dX0_roam_12 (by decide) ?_
    exact r0_roam_21 S hr hlocks hK hA  _ _ _ _ hw hE hk_a0 hk_a0 _ _ hH hS _ (lv_sub hl [0] rfl)
/-! FarTypewriter.sends(I)V -/
abbrev rm0_sends : Room := { frames := 2, cells := 0, slots := 0, locals := 221 }
def w0_sends (post : Mm → Prop) (M : Mm) (a0 : Nat) (x1 : Int32) : Prop :=
  mK M (mP M 105 a0 0) = 3 ∧ (mK M (mP M 105 a0 0) = 3 ∧ (mK M (mP M 105 a0 0) = 3 ∧ (w2_sum (fun (r5 : Int32) (M4 : Mm) => w2_two (fun (M10 : Mm) => mK M10 (mP M10 103 a0 0) = 24 ∧ (vp_in 0 10 ∧ (vp_in 0 10 ∧ (∀ M18 : Mm, M18 = sI M10 24 (mP M10 103 a0 0) (0 : Int32).toNatClampNeg ((mI M10 24 (mP M10 103 a0 0) (0 : Int32).toNatClampNeg) + 1) → (mK M18 (mP M18 103 a0 0) = 24 ∧ (vp_in 1 10 ∧ (mK M18 (mP M18 105 a0 0) = 3 ∧ (vp_in 1 10 ∧ (∀ M25 : Mm, M25 = sI M18 24 (mP M18 103 a0 0) (1 : Int32).toNatClampNeg ((mI M18 24 (mP M18 103 a0 0) (1 : Int32).toNatClampNeg) + (mI M18 301 (mP M18 105 a0 0) 0)) → (mK M25 (mP M25 104 a0 0) = 27 ∧ (vp_in x1 2 ∧ (mK M25 (mP M25 27 (mP M25 104 a0 0) x1.toNatClampNeg) = 2 ∧ (((mI M25 201 (mP M25 27 (mP M25 104 a0 0) x1.toNatClampNeg) 0) = 40 → mK M25 (mP M25 103 a0 0) = 24 ∧ (vp_in 2 10 ∧ (vp_in 2 10 ∧ (∀ M49 : Mm, M49 = sI M25 24 (mP M25 103 a0 0) (2 : Int32).toNatClampNeg ((mI M25 24 (mP M25 103 a0 0) (2 : Int32).toNatClampNeg) + 1) → (post M49))))) ∧ (¬ (mI M25 201 (mP M25 27 (mP M25 104 a0 0) x1.toNatClampNeg) 0) = 40 → mK M25 (mP M25 200 (mP M25 27 (mP M25 104 a0 0) x1.toNatClampNeg) 0) = 26 ∧ (vp_in (mI M25 201 (mP M25 27 (mP M25 104 a0 0) x1.toNatClampNeg) 0) 40 ∧ (mK M25 (mP M25 26 (mP M25 200 (mP M25 27 (mP M25 104 a0 0) x1.toNatClampNeg) 0) (mI M25 201 (mP M25 27 (mP M25 104 a0 0) x1.toNatClampNeg) 0).toNatClampNeg) = 3 ∧ (mK M25 (mP M25 105 a0 0) = 3 ∧ (w2_copies (fun (M36 : Mm) => ∀ M42 : Mm, M42 = sI M36 201 (mP M25 27 (mP M25 104 a0 0) x1.toNatClampNeg) 0 ((mI M36 201 (mP M25 27 (mP M25 104 a0 0) x1.toNatClampNeg) 0) + 1) → (post M42)) M25 (mP M25 26 (mP M25 200 (mP M25 27 (mP M25 104 a0 0) x1.toNatClampNeg) 0) (mI M25 201 (mP M25 27 (mP M25 104 a0 0) x1.toNatClampNeg) 0).toNatClampNeg) (mP M25 105 a0 0))))))))))))))))))) M4 (mP M 105 a0 0) r5) M (mP M 105 a0 0) (mI M 301 (mP M 105 a0 0) 0))))
set_option maxHeartbeats 4000000 in
set_option maxRecDepth 100000 in
theorem m0_sends (l : Launch) (g : CG) (AD : Nat → Prop) (M : Mm) (a0 : Nat) (x1 : Int32) (post : Mm → Prop) (hk_a0 : mK M a0 = 1) (hw : w0_sends post M a0 x1) : Met l yX0_sends (ws_ yX0_sends cX0_sends 3 none) rm0_sends (CPc g AD M [.ref a0, .int x1]) (CQv g AD M post) 0 0 AD := by
  refine Met.ofW (cc := cX0_sends) (maxL := 3) (ret := none) (by decide) rfl ?_
  intro p e s m args below meth c s₁ B hml hv
  obtain ⟨rfl, hK, hH, hA⟩ := hv
  have hx := B.exec
  have hb := B.bytes
  have hr : meth.sig.returnType = none := B.returns
  have hts := atoms_spec (ws := ws_ yX0_sends cX0_sends 3 none) B.pre
  have hts : ∀ w ∈ lw_all, w.before _ s = true := fun w h => hts w (List.mem_cons_of_mem _ h)
  have hown : s.vm.findClass RX0 = some m.cls := findClass_of_methodNamed B.named
  have hlocks : meth.locks = false := B.notSynchronized
  have S : CallFix p m c cX0_sends 3 s _ lw_all RX0 := ⟨hx, hb, hml, hown, hts⟩
  have hS : va_S AD s.heap s.heap [] := va_S.rf
  have hE : Ext M M := Ext.rf
  have hl := lv_entry ([.ref a0, .int x1]) (n := 3) (Nat.le_of_ble_eq_true rfl)
  rw [lg_entry_eq]
  generalize (lg_sl ([.ref a0, .int x1]) ++ List.replicate (3 - (lg_sl ([.ref a0, .int x1])).length) Slot.unset).toArray = ls at hl ⊢
  have hl : lv_has ls 3 [(0, .ref a0), (1, .int x1)] := hl
  unfold w0_sends at hw
  refine lv_aload_n hx hb dX0_sends_0 rfl (lv_at hl 0 rfl) ?_
  have hk1 := hw.1
  have hw := hw.2
  refine co_getr S hK hH 0 5 105 (by decide) ⟨by decide, rfl, rfl, rfl⟩ (Or.inl q266) hk_a0 (by rw [hk1]; decide) dX0_sends_1 ?_
  refine lv_aload_n hx hb dX0_sends_4 rfl (lv_at hl 0 rfl) ?_
  have hk2 := hw.1
  have hw := hw.2
  refine co_getr S hK hH 0 5 105 (by decide) ⟨by decide, rfl, rfl, rfl⟩ (Or.inl q266) hk_a0 (by rw [hk2]; decide) dX0_sends_5 ?_
  refine lv_aload_n hx hb dX0_sends_8 rfl (lv_at hl 0 rfl) ?_
  have hk3 := hw.1
  have hw := hw.2
  refine co_getr S hK hH 0 5 105 (by decide) ⟨by decide, rfl, rfl, rfl⟩ (Or.inl q266) hk_a0 (by rw [hk3]; decide) dX0_sends_9 ?_
  refine co_geti S hK hH 2 1 301 (by decide) ⟨by decide, rfl, rfl, rfl⟩ (Or.inr ⟨_, q100⟩) hk3 dX0_sends_12 ?_
  refine co_calli (va_runV (As := [.int (mI M 301 (mP M 105 a0 0) 0)]) (rest := [.ref (mP M 105 a0 0)]) S (m2_sum l g AD M (mP M 105 a0 0) (mI M 301 (mP M 105 a0 0) 0) _ hk2 hw) (cwV 1 hts (lw_V q598 q599 q600 q56 q601) rfl rfl rfl (by decide +kernel) ⟨Nat.le_of_ble_eq_true rfl, Nat.le_of_ble_eq_true rfl⟩) ⟨co_blind, co_recv hK hH (c := 2) (by decide) hk2, co_pre hK hH hA hS⟩ rfl rfl hl.1 rfl (lv_room (Nat.le_of_ble_eq_true rfl)) dX0_sends_15 ⟨Nat.le_refl _, Nat.le_refl _⟩) hS (fun r5 M4 H locs hw hH hE6 hS => ?_)
  have hk8 := hE6.k hk_a0 (by decide)
  have hk9 := hE6.k hk1 (by decide)
  have hE := hE.tr hE6
  refine co_callv (va_runV (As := [.int r5]) (rest := []) S (m2_two l g AD M4 (mP M 105 a0 0) r5 _ hk9 hw) (cwV 1 hts (lw_V q573 q574 q575 q56 q576) rfl rfl rfl (by decide +kernel) ⟨Nat.le_of_ble_eq_true rfl, Nat.le_of_ble_eq_true rfl⟩) ⟨co_blind, co_recv hK hH (c := 2) (by decide) hk9, co_pre hK hH hA hS⟩ rfl rfl hl.1 rfl (lv_room (Nat.le_of_ble_eq_true rfl)) dX0_sends_18 ⟨Nat.le_refl _, Nat.le_refl _⟩) hS (fun M10 H locs hw hH hE12 hS => ?_)
  have hk14 := hE12.k hk8 (by decide)
  have hE := hE.tr hE12
  refine lv_aload_n hx hb dX0_sends_21 rfl (lv_at hl 0 rfl) ?_
  have hk15 := hw.1
  have hw := hw.2
  refine co_getr S hK hH 0 3 103 (by decide) ⟨by decide, rfl, rfl, rfl⟩ (Or.inl q264) hk14 (by rw [hk15]; decide) dX0_sends_22 ?_
  refine lv_iconst (v := 0) hx hb dX0_sends_25 (by decide) ?_
  refine lv_dup2_11 hx hb dX0_sends_26 rfl rfl ?_
  have hin16 := hw.1
  have hw := hw.2
  refine co_iald S hK hH 4 24 ⟨by decide, rfl, rfl⟩ hk15 hin16 dX0_sends_27 ?_
  refine lv_iconst (v := 1) hx hb dX0_sends_28 (by decide) ?_
  refine lv_iadd hx hb dX0_sends_29 ?_
  have hin17 := hw.1
  have hw := hw.2
  refine co_iast S hK hH hS 4 24 ⟨by decide, rfl, rfl⟩ hk15 hin17 dX0_sends_30 (fun H locs hH hS => ?_)
  obtain ⟨M18, eM18⟩ : ∃ y : Mm, y = sI M10 24 (mP M10 103 a0 0) (0 : Int32).toNatClampNeg ((mI M10 24 (mP M10 103 a0 0) (0 : Int32).toNatClampNeg) + 1) := ⟨_, rfl⟩
  have hw := hw M18 eM18
  rw [← eM18] at hH
  have hE19 : Ext M10 M18 := by rw [eM18]; exact Ext.sI
  have hk20 := hE19.k hk14 (by decide)
  have hE := hE.tr hE19
  refine lv_aload_n hx hb dX0_sends_31 rfl (lv_at hl 0 rfl) ?_
  have hk21 := hw.1
  have hw := hw.2
  refine co_getr S hK hH 0 3 103 (by decide) ⟨by decide, rfl, rfl, rfl⟩ (Or.inl q264) hk20 (by rw [hk21]; decide) dX0_sends_32 ?_
  refine lv_iconst (v := 1) hx hb dX0_sends_35 (by decide) ?_
  refine lv_dup2_11 hx hb dX0_sends_36 rfl rfl ?_
  have hin22 := hw.1
  have hw := hw.2
  refine co_iald S hK hH 4 24 ⟨by decide, rfl, rfl⟩ hk21 hin22 dX0_sends_37 ?_
  refine lv_aload_n hx hb dX0_sends_38 rfl (lv_at hl 0 rfl) ?_
  have hk23 := hw.1
  have hw := hw.2
  refine co_getr S hK hH 0 5 105 (by decide) ⟨by decide, rfl, rfl, rfl⟩ (Or.inl q266) hk20 (by rw [hk23]; decide) dX0_sends_39 ?_
  refine co_geti S hK hH 2 1 301 (by decide) ⟨by decide, rfl, rfl, rfl⟩ (Or.inr ⟨_, q100⟩) hk23 dX0_sends_42 ?_
  refine lv_iadd hx hb dX0_sends_45 ?_
  have hin24 := hw.1
  have hw := hw.2
  refine co_iast S hK hH hS 4 24 ⟨by decide, rfl, rfl⟩ hk21 hin24 dX0_sends_46 (fun H locs hH hS => ?_)
  obtain ⟨M25, eM25⟩ : ∃ y : Mm, y = sI M18 24 (mP M18 103 a0 0) (1 : Int32).toNatClampNeg ((mI M18 24 (mP M18 103 a0 0) (1 : Int32).toNatClampNeg) + (mI M18 301 (mP M18 105 a0 0) 0)) := ⟨_, rfl⟩
  have hw := hw M25 eM25
  rw [← eM25] at hH
  have hE26 : Ext M18 M25 := by rw [eM25]; exact Ext.sI
  have hk27 := hE26.k hk20 (by decide)
  have hE := hE.tr hE26
  refine lv_aload_n hx hb dX0_sends_47 rfl (lv_at hl 0 rfl) ?_
  have hk28 := hw.1
  have hw := hw.2
  refine co_getr S hK hH 0 4 104 (by decide) ⟨by decide, rfl, rfl, rfl⟩ (Or.inl q265) hk27 (by rw [hk28]; decide) dX0_sends_48 ?_
  refine lv_iload_n hx hb dX0_sends_51 rfl (lv_at hl 1 rfl) ?_
  have hin29 := hw.1
  have hw := hw.2
  have hk30 := hw.1
  have hw := hw.2
  refine co_aald S hK hH 7 27 ⟨by decide, rfl, rfl⟩ hk28 hin29 (by rw [hk30]; decide) dX0_sends_52 ?_
  refine lv_astore_n (lv' := [(2, .ref (mP M25 27 (mP M25 104 a0 0) x1.toNatClampNeg)), (0, .ref a0), (1, .int x1)]) hx hb dX0_sends_53 rfl hl (by decide) rfl (fun ls hl => ?_)
  refine lv_aload_n hx hb dX0_sends_54 rfl (lv_at hl 0 rfl) ?_
  refine co_geti S hK hH 1 1 201 (by decide) ⟨by decide, rfl, rfl, rfl⟩ (Or.inr ⟨_, q111⟩) hk30 dX0_sends_55 ?_
  refine lv_bipush (v := 40) hx hb dX0_sends_58 (by decide) ?_
  refine lv_icmp_ne (tgt := 74) hx hb dX0_sends_60 (by decide) (fun c31 => ?_) (fun c31 => ?_)
  · have hw := hw.2 c31
    refine lv_aload_n hx hb dX0_sends_74 rfl (lv_at hl 0 rfl) ?_
    have hk32 := hw.1
    have hw := hw.2
    refine co_getr S hK hH 1 0 200 (by decide) ⟨by decide, rfl, rfl, rfl⟩ (Or.inr ⟨_, q109⟩) hk30 (by rw [hk32]; decide) dX0_sends_75 ?_
    refine lv_aload_n hx hb dX0_sends_78 rfl (lv_at hl 0 rfl) ?_
    refine co_geti S hK hH 1 1 201 (by decide) ⟨by decide, rfl, rfl, rfl⟩ (Or.inr ⟨_, q111⟩) hk30 dX0_sends_79 ?_
    have hin33 := hw.1
    have hw := hw.2
    have hk34 := hw.1
    have hw := hw.2
    refine co_aald S hK hH 6 26 ⟨by decide, rfl, rfl⟩ hk32 hin33 (by rw [hk34]; decide) dX0_sends_82 ?_
    refine lv_aload_n hx hb dX0_sends_83 rfl (lv_at hl 1 rfl) ?_
    have hk35 := hw.1
    have hw := hw.2
    refine co_getr S hK hH 0 5 105 (by decide) ⟨by decide, rfl, rfl, rfl⟩ (Or.inl q266) hk27 (by rw [hk35]; decide) dX0_sends_84 ?_
    refine co_callv (va_runV (As := [.ref (mP M25 105 a0 0)]) (rest := []) S (m2_copies l g AD M25 (mP M25 26 (mP M25 200 (mP M25 27 (mP M25 104 a0 0) x1.toNatClampNeg) 0) (mI M25 201 (mP M25 27 (mP M25 104 a0 0) x1.toNatClampNeg) 0).toNatClampNeg) (mP M25 105 a0 0) _ hk34 hk35 hw) (cwV 1 hts (lw_V q607 q608 q609 q56 q610) rfl rfl rfl (by decide +kernel) ⟨Nat.le_of_ble_eq_true rfl, Nat.le_of_ble_eq_true rfl⟩) ⟨co_blind, co_recv hK hH (c := 2) (by decide) hk34, co_pre hK hH hA hS⟩ rfl rfl hl.1 rfl (lv_room (Nat.le_of_ble_eq_true rfl)) dX0_sends_87 ⟨Nat.le_refl _, Nat.le_refl _⟩) hS (fun M36 H locs hw hH hE38 hS => ?_)
    have hk40 := hE38.k hk27 (by decide)
    have hk41 := hE38.k hk30 (by decide)
    have hE := hE.tr hE38
    refine lv_aload_n hx hb dX0_sends_90 rfl (lv_at hl 0 rfl) ?_
    refine lv_dup hx hb dX0_sends_91 rfl ?_
    refine co_geti S hK hH 1 1 201 (by decide) ⟨by decide, rfl, rfl, rfl⟩ (Or.inr ⟨_, q111⟩) hk41 dX0_sends_92 ?_
    refine lv_iconst (v := 1) hx hb dX0_sends_95 (by decide) ?_
    refine lv_iadd hx hb dX0_sends_96 ?_
    refine co_puti S hK hH hS 1 1 201 (by decide) ⟨by decide, rfl, rfl, rfl, rfl⟩ (Or.inr ⟨_, q111⟩) hk41 ⟨rfl, rfl⟩ dX0_sends_97 (fun H locs hH hS => ?_)
    obtain ⟨M42, eM42⟩ : ∃ y : Mm, y = sI M36 201 (mP M25 27 (mP M25 104 a0 0) x1.toNatClampNeg) 0 ((mI M36 201 (mP M25 27 (mP M25 104 a0 0) x1.toNatClampNeg) 0) + 1) := ⟨_, rfl⟩
    have hw := hw M42 eM42
    rw [← eM42] at hH
    have hE43 : Ext M36 M42 := by rw [eM42]; exact Ext.sI
    have hk44 := hE43.k hk40 (by decide)
    have hk45 := hE43.k hk41 (by decide)
    have hE := hE.tr hE43
    exact co_vret S hr hlocks hH hE hS hw dX0_sends_100
  · have hw := hw.1 c31
    refine lv_aload_n hx hb dX0_sends_63 rfl (lv_at hl 1 rfl) ?_
    have hk46 := hw.1
    have hw := hw.2
    refine co_getr S hK hH 0 3 103 (by decide) ⟨by decide, rfl, rfl, rfl⟩ (Or.inl q264) hk27 (by rw [hk46]; decide) dX0_sends_64 ?_
    refine lv_iconst (v := 2) hx hb dX0_sends_67 (by decide) ?_
    refine lv_dup2_11 hx hb dX0_sends_68 rfl rfl ?_
    have hin47 := hw.1
    have hw := hw.2
    refine co_iald S hK hH 4 24 ⟨by decide, rfl, rfl⟩ hk46 hin47 dX0_sends_69 ?_
    refine lv_iconst (v := 1) hx hb dX0_sends_70 (by decide) ?_
    refine lv_iadd hx hb dX0_sends_71 ?_
    have hin48 := hw.1
    have hw := hw.2
    refine co_iast S hK hH hS 4 24 ⟨by decide, rfl, rfl⟩ hk46 hin48 dX0_sends_72 (fun H locs hH hS => ?_)
    obtain ⟨M49, eM49⟩ : ∃ y : Mm, y = sI M25 24 (mP M25 103 a0 0) (2 : Int32).toNatClampNeg ((mI M25 24 (mP M25 103 a0 0) (2 : Int32).toNatClampNeg) + 1) := ⟨_, rfl⟩
    have hw := hw M49 eM49
    rw [← eM49] at hH
    have hE50 : Ext M25 M49 := by rw [eM49]; exact Ext.sI
    have hk51 := hE50.k hk27 (by decide)
    have hk52 := hE50.k hk30 (by decide)
    have hE := hE.tr hE50
    exact co_vret S hr hlocks hH hE hS hw dX0_sends_73
/-! FarTypewriter.sendsFar(LFarTypewriter$State;)V -/
abbrev rm0_sendsFar : Room := { frames := 5, cells := 0, slots := 0, locals := 280 }
def w0_sendsFar (post : Mm → Prop) (M : Mm) (a0 : Nat) (a1 : Nat) : Prop :=
  mK M (mP M 125 a0 0) = 4 ∧ (mK M (mP M 400 (mP M 125 a0 0) 0) = 25 ∧ (mK M (mP M 125 a0 0) = 4 ∧ (w3_find (fun (r5 : Int32) (M4 : Mm) => vp_in r5 32 ∧ (mK M4 (mP M4 25 (mP M 400 (mP M 125 a0 0) 0) r5.toNatClampNeg) = 5 ∧ (mK M4 (mP M4 105 a0 0) = 3 ∧ (∀ M14 : Mm, M14 = sI M4 301 (mP M4 105 a0 0) 0 0 → (mK M14 (mP M14 105 a0 0) = 3 ∧ (w2_put (fun (M20 : Mm) => mK M20 (mP M20 105 a0 0) = 3 ∧ (w2_put (fun (M28 : Mm) => mK M28 (mP M28 105 a0 0) = 3 ∧ (w2_two (fun (M36 : Mm) => mK M36 (mP M36 105 a0 0) = 3 ∧ (w2_two (fun (M44 : Mm) => mK M44 (mP M44 105 a0 0) = 3 ∧ (w2_two (fun (M52 : Mm) => mK M52 (mP M52 105 a0 0) = 3 ∧ (mK M52 (mP M52 500 a1 0) = 6 ∧ (w2_put (fun (M61 : Mm) => mK M61 (mP M61 105 a0 0) = 3 ∧ (mK M61 (mP M61 500 a1 0) = 6 ∧ (w2_put (fun (M70 : Mm) => mK M70 (mP M70 500 (mP M4 25 (mP M 400 (mP M 125 a0 0) 0) r5.toNatClampNeg) 0) = 6 ∧ (mK M70 (mP M70 500 a1 0) = 6 ∧ (w0_differs (fun (M79 : Mm) => ∀ M86 : Mm, M86 = sI M79 120 a0 0 (mI M79 501 a1 0) → (∀ M91 : Mm, M91 = sI M86 121 a0 0 (mI M86 102 a0 0) → (∀ M96 : Mm, M96 = sI M91 124 a0 0 0 → (w0_sends (fun (M101 : Mm) => post M101) M96 a0 1)))) M70 a0 (mP M70 500 (mP M4 25 (mP M 400 (mP M 125 a0 0) 0) r5.toNatClampNeg) 0) (mP M70 500 a1 0)))) M61 (mP M61 105 a0 0) (mI M61 603 (mP M61 500 a1 0) 0)))) M52 (mP M52 105 a0 0) (mI M52 602 (mP M52 500 a1 0) 0)))) M44 (mP M44 105 a0 0) (mI M44 502 a1 0))) M36 (mP M36 105 a0 0) (mI M36 501 a1 0))) M28 (mP M28 105 a0 0) (mI M28 119 a0 0))) M20 (mP M20 105 a0 0) (mI M20 122 a0 0))) M14 (mP M14 105 a0 0) 83)))))) M (mP M 125 a0 0) (mI M 119 a0 0))))
set_option maxHeartbeats 4000000 in
set_option maxRecDepth 100000 in
theorem m0_sendsFar (l : Launch) (g : CG) (AD : Nat → Prop) (M : Mm) (a0 : Nat) (a1 : Nat) (post : Mm → Prop) (hk_a0 : mK M a0 = 1) (hk_a1 : mK M a1 = 5) (hw : w0_sendsFar post M a0 a1) : Met l yX0_sendsFar (ws_ yX0_sendsFar cX0_sendsFar 3 none) rm0_sendsFar (CPc g AD M [.ref a0, .ref a1]) (CQv g AD M post) 0 0 AD := by
  refine Met.ofW (cc := cX0_sendsFar) (maxL := 3) (ret := none) (by decide) rfl ?_
  intro p e s m args below meth c s₁ B hml hv
  obtain ⟨rfl, hK, hH, hA⟩ := hv
  have hx := B.exec
  have hb := B.bytes
  have hr : meth.sig.returnType = none := B.returns
  have hts := atoms_spec (ws := ws_ yX0_sendsFar cX0_sendsFar 3 none) B.pre
  have hts : ∀ w ∈ lw_all, w.before _ s = true := fun w h => hts w (List.mem_cons_of_mem _ h)
  have hown : s.vm.findClass RX0 = some m.cls := findClass_of_methodNamed B.named
  have hlocks : meth.locks = false := B.notSynchronized
  have S : CallFix p m c cX0_sendsFar 3 s _ lw_all RX0 := ⟨hx, hb, hml, hown, hts⟩
  have hS : va_S AD s.heap s.heap [] := va_S.rf
  have hE : Ext M M := Ext.rf
  have hl := lv_entry ([.ref a0, .ref a1]) (n := 3) (Nat.le_of_ble_eq_true rfl)
  rw [lg_entry_eq]
  generalize (lg_sl ([.ref a0, .ref a1]) ++ List.replicate (3 - (lg_sl ([.ref a0, .ref a1])).length) Slot.unset).toArray = ls at hl ⊢
  have hl : lv_has ls 3 [(0, .ref a0), (1, .ref a1)] := hl
  unfold w0_sendsFar at hw
  refine lv_aload_n hx hb dX0_sendsFar_0 rfl (lv_at hl 0 rfl) ?_
  have hk1 := hw.1
  have hw := hw.2
  refine co_getr S hK hH 0 25 125 (by decide) ⟨by decide, rfl, rfl, rfl⟩ (Or.inl q286) hk_a0 (by rw [hk1]; decide) dX0_sendsFar_1 ?_
  have hk2 := hw.1
  have hw := hw.2
  refine co_getr S hK hH 3 0 400 (by decide) ⟨by decide, rfl, rfl, rfl⟩ (Or.inr ⟨_, q186⟩) hk1 (by rw [hk2]; decide) dX0_sendsFar_4 ?_
  refine lv_aload_n hx hb dX0_sendsFar_7 rfl (lv_at hl 0 rfl) ?_
  have hk3 := hw.1
  have hw := hw.2
  refine co_getr S hK hH 0 25 125 (by decide) ⟨by decide, rfl, rfl, rfl⟩ (Or.inl q286) hk_a0 (by rw [hk3]; decide) dX0_sendsFar_8 ?_
  refine lv_aload_n hx hb dX0_sendsFar_11 rfl (lv_at hl 0 rfl) ?_
  refine co_geti S hK hH 0 19 119 (by decide) ⟨by decide, rfl, rfl, rfl⟩ (Or.inl q280) hk_a0 dX0_sendsFar_12 ?_
  refine co_calli (va_runV (As := [.int (mI M 119 a0 0)]) (rest := [.ref (mP M 400 (mP M 125 a0 0) 0)]) S (m3_find l g AD M (mP M 125 a0 0) (mI M 119 a0 0) _ hk3 hw) (cwV 1 hts (lw_V q565 q566 q567 q57 q568) rfl rfl rfl (by decide +kernel) ⟨Nat.le_of_ble_eq_true rfl, Nat.le_of_ble_eq_true rfl⟩) ⟨co_blind, co_recv hK hH (c := 3) (by decide) hk3, co_pre hK hH hA hS⟩ rfl rfl hl.1 rfl (lv_room (Nat.le_of_ble_eq_true rfl)) dX0_sendsFar_15 ⟨Nat.le_refl _, Nat.le_refl _⟩) hS (fun r5 M4 H locs hw hH hE6 hS => ?_)
  have hk8 := hE6.k hk_a0 (by decide)
  have hk9 := hE6.k hk_a1 (by decide)
  have hk10 := hE6.k hk2 (by decide)
  have hE := hE.tr hE6
  have hin11 := hw.1
  have hw := hw.2
  have hk12 := hw.1
  have hw := hw.2
  refine co_aald S hK hH 5 25 ⟨by decide, rfl, rfl⟩ hk10 hin11 (by rw [hk12]; decide) dX0_sendsFar_18 ?_
  refine lv_astore_n (lv' := [(2, .ref (mP M4 25 (mP M 400 (mP M 125 a0 0) 0) r5.toNatClampNeg)), (0, .ref a0), (1, .ref a1)]) hx hb dX0_sendsFar_19 rfl hl (by decide) rfl (fun ls hl => ?_)
  refine lv_aload_n hx hb dX0_sendsFar_20 rfl (lv_at hl 1 rfl) ?_
  have hk13 := hw.1
  have hw := hw.2
  refine co_getr S hK hH 0 5 105 (by decide) ⟨by decide, rfl, rfl, rfl⟩ (Or.inl q266) hk8 (by rw [hk13]; decide) dX0_sendsFar_21 ?_
  refine lv_iconst (v := 0) hx hb dX0_sendsFar_24 (by decide) ?_
  refine co_puti S hK hH hS 2 1 301 (by decide) ⟨by decide, rfl, rfl, rfl, rfl⟩ (Or.inr ⟨_, q100⟩) hk13 ⟨rfl, rfl⟩ dX0_sendsFar_25 (fun H locs hH hS => ?_)
  obtain ⟨M14, eM14⟩ : ∃ y : Mm, y = sI M4 301 (mP M4 105 a0 0) 0 0 := ⟨_, rfl⟩
  have hw := hw M14 eM14
  rw [← eM14] at hH
  have hE15 : Ext M4 M14 := by rw [eM14]; exact Ext.sI
  have hk16 := hE15.k hk8 (by decide)
  have hk17 := hE15.k hk9 (by decide)
  have hk18 := hE15.k hk12 (by decide)
  have hE := hE.tr hE15
  refine lv_aload_n hx hb dX0_sendsFar_28 rfl (lv_at hl 1 rfl) ?_
  have hk19 := hw.1
  have hw := hw.2
  refine co_getr S hK hH 0 5 105 (by decide) ⟨by decide, rfl, rfl, rfl⟩ (Or.inl q266) hk16 (by rw [hk19]; decide) dX0_sendsFar_29 ?_
  refine lv_bipush (v := 83) hx hb dX0_sendsFar_32 (by decide) ?_
  refine co_callv (va_runV (As := [.int 83]) (rest := []) S (m2_put l g AD M14 (mP M14 105 a0 0) 83 _ hk19 hw) (cwV 1 hts (lw_V q569 q570 q571 q56 q572) rfl rfl rfl (by decide +kernel) ⟨Nat.le_of_ble_eq_true rfl, Nat.le_of_ble_eq_true rfl⟩) ⟨co_blind, co_recv hK hH (c := 2) (by decide) hk19, co_pre hK hH hA hS⟩ rfl rfl hl.1 rfl (lv_room (Nat.le_of_ble_eq_true rfl)) dX0_sendsFar_34 ⟨Nat.le_refl _, Nat.le_refl _⟩) hS (fun M20 H locs hw hH hE22 hS => ?_)
  have hk24 := hE22.k hk16 (by decide)
  have hk25 := hE22.k hk17 (by decide)
  have hk26 := hE22.k hk18 (by decide)
  have hE := hE.tr hE22
  refine lv_aload_n hx hb dX0_sendsFar_37 rfl (lv_at hl 1 rfl) ?_
  have hk27 := hw.1
  have hw := hw.2
  refine co_getr S hK hH 0 5 105 (by decide) ⟨by decide, rfl, rfl, rfl⟩ (Or.inl q266) hk24 (by rw [hk27]; decide) dX0_sendsFar_38 ?_
  refine lv_aload_n hx hb dX0_sendsFar_41 rfl (lv_at hl 1 rfl) ?_
  refine co_geti S hK hH 0 22 122 (by decide) ⟨by decide, rfl, rfl, rfl⟩ (Or.inl q283) hk24 dX0_sendsFar_42 ?_
  refine co_callv (va_runV (As := [.int (mI M20 122 a0 0)]) (rest := []) S (m2_put l g AD M20 (mP M20 105 a0 0) (mI M20 122 a0 0) _ hk27 hw) (cwV 1 hts (lw_V q569 q570 q571 q56 q572) rfl rfl rfl (by decide +kernel) ⟨Nat.le_of_ble_eq_true rfl, Nat.le_of_ble_eq_true rfl⟩) ⟨co_blind, co_recv hK hH (c := 2) (by decide) hk27, co_pre hK hH hA hS⟩ rfl rfl hl.1 rfl (lv_room (Nat.le_of_ble_eq_true rfl)) dX0_sendsFar_45 ⟨Nat.le_refl _, Nat.le_refl _⟩) hS (fun M28 H locs hw hH hE30 hS => ?_)
  have hk32 := hE30.k hk24 (by decide)
  have hk33 := hE30.k hk25 (by decide)
  have hk34 := hE30.k hk26 (by decide)
  have hE := hE.tr hE30
  refine lv_aload_n hx hb dX0_sendsFar_48 rfl (lv_at hl 1 rfl) ?_
  have hk35 := hw.1
  have hw := hw.2
  refine co_getr S hK hH 0 5 105 (by decide) ⟨by decide, rfl, rfl, rfl⟩ (Or.inl q266) hk32 (by rw [hk35]; decide) dX0_sendsFar_49 ?_
  refine lv_aload_n hx hb dX0_sendsFar_52 rfl (lv_at hl 1 rfl) ?_
  refine co_geti S hK hH 0 19 119 (by decide) ⟨by decide, rfl, rfl, rfl⟩ (Or.inl q280) hk32 dX0_sendsFar_53 ?_
  refine co_callv (va_runV (As := [.int (mI M28 119 a0 0)]) (rest := []) S (m2_two l g AD M28 (mP M28 105 a0 0) (mI M28 119 a0 0) _ hk35 hw) (cwV 1 hts (lw_V q573 q574 q575 q56 q576) rfl rfl rfl (by decide +kernel) ⟨Nat.le_of_ble_eq_true rfl, Nat.le_of_ble_eq_true rfl⟩) ⟨co_blind, co_recv hK hH (c := 2) (by decide) hk35, co_pre hK hH hA hS⟩ rfl rfl hl.1 rfl (lv_room (Nat.le_of_ble_eq_true rfl)) dX0_sendsFar_56 ⟨Nat.le_refl _, Nat.le_refl _⟩) hS (fun M36 H locs hw hH hE38 hS => ?_)
  have hk40 := hE38.k hk32 (by decide)
  have hk41 := hE38.k hk33 (by decide)
  have hk42 := hE38.k hk34 (by decide)
  have hE := hE.tr hE38
  refine lv_aload_n hx hb dX0_sendsFar_59 rfl (lv_at hl 1 rfl) ?_
  have hk43 := hw.1
  have hw := hw.2
  refine co_getr S hK hH 0 5 105 (by decide) ⟨by decide, rfl, rfl, rfl⟩ (Or.inl q266) hk40 (by rw [hk43]; decide) dX0_sendsFar_60 ?_
  refine lv_aload_n hx hb dX0_sendsFar_63 rfl (lv_at hl 2 rfl) ?_
  refine co_geti S hK hH 4 1 501 (by decide) ⟨by decide, rfl, rfl, rfl⟩ (Or.inr ⟨_, q175⟩) hk41 dX0_sendsFar_64 ?_
  refine co_callv (va_runV (As := [.int (mI M36 501 a1 0)]) (rest := []) S (m2_two l g AD M36 (mP M36 105 a0 0) (mI M36 501 a1 0) _ hk43 hw) (cwV 1 hts (lw_V q573 q574 q575 q56 q576) rfl rfl rfl (by decide +kernel) ⟨Nat.le_of_ble_eq_true rfl, Nat.le_of_ble_eq_true rfl⟩) ⟨co_blind, co_recv hK hH (c := 2) (by decide) hk43, co_pre hK hH hA hS⟩ rfl rfl hl.1 rfl (lv_room (Nat.le_of_ble_eq_true rfl)) dX0_sendsFar_67 ⟨Nat.le_refl _, Nat.le_refl _⟩) hS (fun M44 H locs hw hH hE46 hS => ?_)
  have hk48 := hE46.k hk40 (by decide)
  have hk49 := hE46.k hk41 (by decide)
  have hk50 := hE46.k hk42 (by decide)
  have hE := hE.tr hE46
  refine lv_aload_n hx hb dX0_sendsFar_70 rfl (lv_at hl 1 rfl) ?_
  have hk51 := hw.1
  have hw := hw.2
  refine co_getr S hK hH 0 5 105 (by decide) ⟨by decide, rfl, rfl, rfl⟩ (Or.inl q266) hk48 (by rw [hk51]; decide) dX0_sendsFar_71 ?_
  refine lv_aload_n hx hb dX0_sendsFar_74 rfl (lv_at hl 2 rfl) ?_
  refine co_geti S hK hH 4 2 502 (by decide) ⟨by decide, rfl, rfl, rfl⟩ (Or.inr ⟨_, q176⟩) hk49 dX0_sendsFar_75 ?_
  refine co_callv (va_runV (As := [.int (mI M44 502 a1 0)]) (rest := []) S (m2_two l g AD M44 (mP M44 105 a0 0) (mI M44 502 a1 0) _ hk51 hw) (cwV 1 hts (lw_V q573 q574 q575 q56 q576) rfl rfl rfl (by decide +kernel) ⟨Nat.le_of_ble_eq_true rfl, Nat.le_of_ble_eq_true rfl⟩) ⟨co_blind, co_recv hK hH (c := 2) (by decide) hk51, co_pre hK hH hA hS⟩ rfl rfl hl.1 rfl (lv_room (Nat.le_of_ble_eq_true rfl)) dX0_sendsFar_78 ⟨Nat.le_refl _, Nat.le_refl _⟩) hS (fun M52 H locs hw hH hE54 hS => ?_)
  have hk56 := hE54.k hk48 (by decide)
  have hk57 := hE54.k hk49 (by decide)
  have hk58 := hE54.k hk50 (by decide)
  have hE := hE.tr hE54
  refine lv_aload_n hx hb dX0_sendsFar_81 rfl (lv_at hl 1 rfl) ?_
  have hk59 := hw.1
  have hw := hw.2
  refine co_getr S hK hH 0 5 105 (by decide) ⟨by decide, rfl, rfl, rfl⟩ (Or.inl q266) hk56 (by rw [hk59]; decide) dX0_sendsFar_82 ?_
  refine lv_aload_n hx hb dX0_sendsFar_85 rfl (lv_at hl 2 rfl) ?_
  have hk60 := hw.1
  have hw := hw.2
  refine co_getr S hK hH 4 0 500 (by decide) ⟨by decide, rfl, rfl, rfl⟩ (Or.inr ⟨_, q172⟩) hk57 (by rw [hk60]; decide) dX0_sendsFar_86 ?_
  refine co_geti S hK hH 5 2 602 (by decide) ⟨by decide, rfl, rfl, rfl⟩ (Or.inr ⟨_, q156⟩) hk60 dX0_sendsFar_89 ?_
  refine co_callv (va_runV (As := [.int (mI M52 602 (mP M52 500 a1 0) 0)]) (rest := []) S (m2_put l g AD M52 (mP M52 105 a0 0) (mI M52 602 (mP M52 500 a1 0) 0) _ hk59 hw) (cwV 1 hts (lw_V q569 q570 q571 q56 q572) rfl rfl rfl (by decide +kernel) ⟨Nat.le_of_ble_eq_true rfl, Nat.le_of_ble_eq_true rfl⟩) ⟨co_blind, co_recv hK hH (c := 2) (by decide) hk59, co_pre hK hH hA hS⟩ rfl rfl hl.1 rfl (lv_room (Nat.le_of_ble_eq_true rfl)) dX0_sendsFar_92 ⟨Nat.le_refl _, Nat.le_refl _⟩) hS (fun M61 H locs hw hH hE63 hS => ?_)
  have hk65 := hE63.k hk56 (by decide)
  have hk66 := hE63.k hk57 (by decide)
  have hk67 := hE63.k hk58 (by decide)
  have hE := hE.tr hE63
  refine lv_aload_n hx hb dX0_sendsFar_95 rfl (lv_at hl 1 rfl) ?_
  have hk68 := hw.1
  have hw := hw.2
  refine co_getr S hK hH 0 5 105 (by decide) ⟨by decide, rfl, rfl, rfl⟩ (Or.inl q266) hk65 (by rw [hk68]; decide) dX0_sendsFar_96 ?_
  refine lv_aload_n hx hb dX0_sendsFar_99 rfl (lv_at hl 2 rfl) ?_
  have hk69 := hw.1
  have hw := hw.2
  refine co_getr S hK hH 4 0 500 (by decide) ⟨by decide, rfl, rfl, rfl⟩ (Or.inr ⟨_, q172⟩) hk66 (by rw [hk69]; decide) dX0_sendsFar_100 ?_
  refine co_geti S hK hH 5 3 603 (by decide) ⟨by decide, rfl, rfl, rfl⟩ (Or.inr ⟨_, q161⟩) hk69 dX0_sendsFar_103 ?_
  refine co_callv (va_runV (As := [.int (mI M61 603 (mP M61 500 a1 0) 0)]) (rest := []) S (m2_put l g AD M61 (mP M61 105 a0 0) (mI M61 603 (mP M61 500 a1 0) 0) _ hk68 hw) (cwV 1 hts (lw_V q569 q570 q571 q56 q572) rfl rfl rfl (by decide +kernel) ⟨Nat.le_of_ble_eq_true rfl, Nat.le_of_ble_eq_true rfl⟩) ⟨co_blind, co_recv hK hH (c := 2) (by decide) hk68, co_pre hK hH hA hS⟩ rfl rfl hl.1 rfl (lv_room (Nat.le_of_ble_eq_true rfl)) dX0_sendsFar_106 ⟨Nat.le_refl _, Nat.le_refl _⟩) hS (fun M70 H locs hw hH hE72 hS => ?_)
  have hk74 := hE72.k hk65 (by decide)
  have hk75 := hE72.k hk66 (by decide)
  have hk76 := hE72.k hk67 (by decide)
  have hE := hE.tr hE72
  refine lv_aload_n hx hb dX0_sendsFar_109 rfl (lv_at hl 1 rfl) ?_
  refine lv_aload_n hx hb dX0_sendsFar_110 rfl (lv_at hl 0 rfl) ?_
  have hk77 := hw.1
  have hw := hw.2
  refine co_getr S hK hH 4 0 500 (by decide) ⟨by decide, rfl, rfl, rfl⟩ (Or.inr ⟨_, q172⟩) hk76 (by rw [hk77]; decide) dX0_sendsFar_111 ?_
  refine lv_aload_n hx hb dX0_sendsFar_114 rfl (lv_at hl 2 rfl) ?_
  have hk78 := hw.1
  have hw := hw.2
  refine co_getr S hK hH 4 0 500 (by decide) ⟨by decide, rfl, rfl, rfl⟩ (Or.inr ⟨_, q172⟩) hk75 (by rw [hk78]; decide) dX0_sendsFar_115 ?_
  refine co_callv (va_runV (As := [.ref (mP M70 500 (mP M4 25 (mP M 400 (mP M 125 a0 0) 0) r5.toNatClampNeg) 0), .ref (mP M70 500 a1 0)]) (rest := []) S (m0_differs l g AD M70 a0 (mP M70 500 (mP M4 25 (mP M 400 (mP M 125 a0 0) 0) r5.toNatClampNeg) 0) (mP M70 500 a1 0) _ hk74 hk77 hk78 hw) (cwV 2 hts (lw_V q578 q580 qs5 q54 q581) rfl rfl rfl (by decide +kernel) ⟨Nat.le_of_ble_eq_true rfl, Nat.le_of_ble_eq_true rfl⟩) ⟨co_blind, co_recv hK hH (c := 0) (by decide) hk74, co_pre hK hH hA hS⟩ rfl rfl hl.1 rfl (lv_room (Nat.le_of_ble_eq_true rfl)) dX0_sendsFar_118 ⟨Nat.le_refl _, Nat.le_refl _⟩) hS (fun M79 H locs hw hH hE81 hS => ?_)
  have hk83 := hE81.k hk74 (by decide)
  have hk84 := hE81.k hk75 (by decide)
  have hk85 := hE81.k hk76 (by decide)
  have hE := hE.tr hE81
  refine lv_aload_n hx hb dX0_sendsFar_121 rfl (lv_at hl 1 rfl) ?_
  refine lv_aload_n hx hb dX0_sendsFar_122 rfl (lv_at hl 2 rfl) ?_
  refine co_geti S hK hH 4 1 501 (by decide) ⟨by decide, rfl, rfl, rfl⟩ (Or.inr ⟨_, q175⟩) hk84 dX0_sendsFar_123 ?_
  refine co_puti S hK hH hS 0 20 120 (by decide) ⟨by decide, rfl, rfl, rfl, rfl⟩ (Or.inl q281) hk83 ⟨rfl, rfl⟩ dX0_sendsFar_126 (fun H locs hH hS => ?_)
  obtain ⟨M86, eM86⟩ : ∃ y : Mm, y = sI M79 120 a0 0 (mI M79 501 a1 0) := ⟨_, rfl⟩
  have hw := hw M86 eM86
  rw [← eM86] at hH
  have hE87 : Ext M79 M86 := by rw [eM86]; exact Ext.sI
  have hk88 := hE87.k hk83 (by decide)
  have hk89 := hE87.k hk84 (by decide)
  have hk90 := hE87.k hk85 (by decide)
  have hE := hE.tr hE87
  refine lv_aload_n hx hb dX0_sendsFar_129 rfl (lv_at hl 1 rfl) ?_
  refine lv_aload_n hx hb dX0_sendsFar_130 rfl (lv_at hl 1 rfl) ?_
  refine co_geti S hK hH 0 2 102 (by decide) ⟨by decide, rfl, rfl, rfl⟩ (Or.inl q263) hk88 dX0_sendsFar_131 ?_
  refine co_puti S hK hH hS 0 21 121 (by decide) ⟨by decide, rfl, rfl, rfl, rfl⟩ (Or.inl q282) hk88 ⟨rfl, rfl⟩ dX0_sendsFar_134 (fun H locs hH hS => ?_)
  obtain ⟨M91, eM91⟩ : ∃ y : Mm, y = sI M86 121 a0 0 (mI M86 102 a0 0) := ⟨_, rfl⟩
  have hw := hw M91 eM91
  rw [← eM91] at hH
  have hE92 : Ext M86 M91 := by rw [eM91]; exact Ext.sI
  have hk93 := hE92.k hk88 (by decide)
  have hk94 := hE92.k hk89 (by decide)
  have hk95 := hE92.k hk90 (by decide)
  have hE := hE.tr hE92
  refine lv_aload_n hx hb dX0_sendsFar_137 rfl (lv_at hl 1 rfl) ?_
  refine lv_iconst (v := 0) hx hb dX0_sendsFar_138 (by decide) ?_
  refine co_puti S hK hH hS 0 24 124 (by decide) ⟨by decide, rfl, rfl, rfl, rfl⟩ (Or.inl q285) hk93 ⟨rfl, rfl⟩ dX0_sendsFar_139 (fun H locs hH hS => ?_)
  obtain ⟨M96, eM96⟩ : ∃ y : Mm, y = sI M91 124 a0 0 0 := ⟨_, rfl⟩
  have hw := hw M96 eM96
  rw [← eM96] at hH
  have hE97 : Ext M91 M96 := by rw [eM96]; exact Ext.sI
  have hk98 := hE97.k hk93 (by decide)
  have hk99 := hE97.k hk94 (by decide)
  have hk100 := hE97.k hk95 (by decide)
  have hE := hE.tr hE97
  refine lv_aload_n hx hb dX0_sendsFar_142 rfl (lv_at hl 1 rfl) ?_
  refine lv_iconst (v := 1) hx hb dX0_sendsFar_143 (by decide) ?_
  refine co_callv (va_runV (As := [.int 1]) (rest := []) S (m0_sends l g AD M96 a0 1 _ hk98 hw) (cwV 1 hts (lw_V q594 q596 qs7 q54 q597) rfl rfl rfl (by decide +kernel) ⟨Nat.le_of_ble_eq_true rfl, Nat.le_of_ble_eq_true rfl⟩) ⟨co_blind, co_recv hK hH (c := 0) (by decide) hk98, co_pre hK hH hA hS⟩ rfl rfl hl.1 rfl (lv_room (Nat.le_of_ble_eq_true rfl)) dX0_sendsFar_144 ⟨Nat.le_refl _, Nat.le_refl _⟩) hS (fun M101 H locs hw hH hE103 hS => ?_)
  have hk105 := hE103.k hk98 (by decide)
  have hk106 := hE103.k hk99 (by decide)
  have hk107 := hE103.k hk100 (by decide)
  have hE := hE.tr hE103
  exact co_vret S hr hlocks hH hE hS hw dX0_sendsFar_147
