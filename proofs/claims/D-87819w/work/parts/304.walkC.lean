/-! FarTypewriter$Program.isPlain()Z -/
abbrev rm6_isPlain : Room := { frames := 0, cells := 0, slots := 0, locals := 0 }
def w6_isPlain (post : Int32 → Mm → Prop) (M : Mm) (a0 : Nat) : Prop :=
  post 1 M
set_option maxHeartbeats 4000000 in
set_option maxRecDepth 100000 in
theorem m6_isPlain (l : Launch) (g : CG) (AD : Nat → Prop) (M : Mm) (a0 : Nat) (post : Int32 → Mm → Prop) (hw : w6_isPlain post M a0) : Met l yX6_isPlain (ws_ yX6_isPlain cX6_isPlain 1 (some .boolean)) rm6_isPlain (CPc g AD M [.ref a0]) (CQi g AD M post) 0 0 AD := by
  refine Met.ofW (cc := cX6_isPlain) (maxL := 1) (ret := (some .boolean)) (by decide) rfl ?_
  intro p e s m args below meth c s₁ B hml hv
  obtain ⟨rfl, hK, hH, hA⟩ := hv
  have hx := B.exec
  have hb := B.bytes
  have hr : meth.sig.returnType = (some .boolean) := B.returns
  have hts := atoms_spec (ws := ws_ yX6_isPlain cX6_isPlain 1 (some .boolean)) B.pre
  have hts : ∀ w ∈ lw_all, w.before _ s = true := fun w h => hts w (List.mem_cons_of_mem _ h)
  have hown : s.vm.findClass RX6 = some m.cls := findClass_of_methodNamed B.named
  have hlocks : meth.locks = false := B.notSynchronized
  have S : CallFix p m c cX6_isPlain 1 s _ lw_all RX6 := ⟨hx, hb, hml, hown, hts⟩
  have hS : va_S AD s.heap s.heap [] := va_S.rf
  have hE : Ext M M := Ext.rf
  have hl := lv_entry ([.ref a0]) (n := 1) (Nat.le_of_ble_eq_true rfl)
  rw [lg_entry_eq]
  generalize (lg_sl ([.ref a0]) ++ List.replicate (1 - (lg_sl ([.ref a0])).length) Slot.unset).toArray = ls at hl ⊢
  have hl : lv_has ls 1 [(0, .ref a0)] := hl
  unfold w6_isPlain at hw
  refine lv_iconst (v := 1) hx hb dX6_isPlain_0 (by decide) ?_
  exact co_zret S hr hlocks hH hE hS rfl hw dX6_isPlain_1
/-! FarTypewriter$Guess.copies(LFarTypewriter$Guess;)V -/
abbrev rm8_copies : Room := { frames := 0, cells := 0, slots := 0, locals := 0 }
def w8_copies (post : Mm → Prop) (M : Mm) (a0 : Nat) (a1 : Nat) : Prop :=
  ∀ M1 : Mm, M1 = sI M 900 a0 0 (mI M 900 a1 0) → (∀ M5 : Mm, M5 = sI M1 901 a0 0 (mI M1 901 a1 0) → (∀ M9 : Mm, M9 = sI M5 902 a0 0 (mI M5 902 a1 0) → (∀ M13 : Mm, M13 = sI M9 903 a0 0 (mI M9 903 a1 0) → (∀ M17 : Mm, M17 = sI M13 904 a0 0 (mI M13 904 a1 0) → (∀ M21 : Mm, M21 = sI M17 905 a0 0 (mI M17 905 a1 0) → (∀ M25 : Mm, M25 = sI M21 906 a0 0 (mI M21 906 a1 0) → (post M25)))))))
set_option maxHeartbeats 4000000 in
set_option maxRecDepth 100000 in
theorem m8_copies (l : Launch) (g : CG) (AD : Nat → Prop) (M : Mm) (a0 : Nat) (a1 : Nat) (post : Mm → Prop) (hk_a0 : mK M a0 = 9) (hk_a1 : mK M a1 = 9) (hw : w8_copies post M a0 a1) : Met l yX8_copies (ws_ yX8_copies cX8_copies 2 none) rm8_copies (CPc g AD M [.ref a0, .ref a1]) (CQv g AD M post) 0 0 AD := by
  refine Met.ofW (cc := cX8_copies) (maxL := 2) (ret := none) (by decide) rfl ?_
  intro p e s m args below meth c s₁ B hml hv
  obtain ⟨rfl, hK, hH, hA⟩ := hv
  have hx := B.exec
  have hb := B.bytes
  have hr : meth.sig.returnType = none := B.returns
  have hts := atoms_spec (ws := ws_ yX8_copies cX8_copies 2 none) B.pre
  have hts : ∀ w ∈ lw_all, w.before _ s = true := fun w h => hts w (List.mem_cons_of_mem _ h)
  have hown : s.vm.findClass RX8 = some m.cls := findClass_of_methodNamed B.named
  have hlocks : meth.locks = false := B.notSynchronized
  have S : CallFix p m c cX8_copies 2 s _ lw_all RX8 := ⟨hx, hb, hml, hown, hts⟩
  have hS : va_S AD s.heap s.heap [] := va_S.rf
  have hE : Ext M M := Ext.rf
  have hl := lv_entry ([.ref a0, .ref a1]) (n := 2) (Nat.le_of_ble_eq_true rfl)
  rw [lg_entry_eq]
  generalize (lg_sl ([.ref a0, .ref a1]) ++ List.replicate (2 - (lg_sl ([.ref a0, .ref a1])).length) Slot.unset).toArray = ls at hl ⊢
  have hl : lv_has ls 2 [(0, .ref a0), (1, .ref a1)] := hl
  unfold w8_copies at hw
  refine lv_aload_n hx hb dX8_copies_0 rfl (lv_at hl 0 rfl) ?_
  refine lv_aload_n hx hb dX8_copies_1 rfl (lv_at hl 1 rfl) ?_
  refine co_geti S hK hH 8 0 900 (by decide) ⟨by decide, rfl, rfl, rfl⟩ (Or.inl q213) hk_a1 dX8_copies_2 ?_
  refine co_puti S hK hH hS 8 0 900 (by decide) ⟨by decide, rfl, rfl, rfl, rfl⟩ (Or.inl q213) hk_a0 ⟨rfl, rfl⟩ dX8_copies_5 (fun H locs hH hS => ?_)
  obtain ⟨M1, eM1⟩ : ∃ y : Mm, y = sI M 900 a0 0 (mI M 900 a1 0) := ⟨_, rfl⟩
  have hw := hw M1 eM1
  rw [← eM1] at hH
  have hE2 : Ext M M1 := by rw [eM1]; exact Ext.sI
  have hk3 := hE2.k hk_a0 (by decide)
  have hk4 := hE2.k hk_a1 (by decide)
  have hE := hE.tr hE2
  refine lv_aload_n hx hb dX8_copies_8 rfl (lv_at hl 0 rfl) ?_
  refine lv_aload_n hx hb dX8_copies_9 rfl (lv_at hl 1 rfl) ?_
  refine co_geti S hK hH 8 1 901 (by decide) ⟨by decide, rfl, rfl, rfl⟩ (Or.inl q215) hk4 dX8_copies_10 ?_
  refine co_puti S hK hH hS 8 1 901 (by decide) ⟨by decide, rfl, rfl, rfl, rfl⟩ (Or.inl q215) hk3 ⟨rfl, rfl⟩ dX8_copies_13 (fun H locs hH hS => ?_)
  obtain ⟨M5, eM5⟩ : ∃ y : Mm, y = sI M1 901 a0 0 (mI M1 901 a1 0) := ⟨_, rfl⟩
  have hw := hw M5 eM5
  rw [← eM5] at hH
  have hE6 : Ext M1 M5 := by rw [eM5]; exact Ext.sI
  have hk7 := hE6.k hk3 (by decide)
  have hk8 := hE6.k hk4 (by decide)
  have hE := hE.tr hE6
  refine lv_aload_n hx hb dX8_copies_16 rfl (lv_at hl 0 rfl) ?_
  refine lv_aload_n hx hb dX8_copies_17 rfl (lv_at hl 1 rfl) ?_
  refine co_geti S hK hH 8 2 902 (by decide) ⟨by decide, rfl, rfl, rfl⟩ (Or.inl q217) hk8 dX8_copies_18 ?_
  refine co_puti S hK hH hS 8 2 902 (by decide) ⟨by decide, rfl, rfl, rfl, rfl⟩ (Or.inl q217) hk7 ⟨rfl, rfl⟩ dX8_copies_21 (fun H locs hH hS => ?_)
  obtain ⟨M9, eM9⟩ : ∃ y : Mm, y = sI M5 902 a0 0 (mI M5 902 a1 0) := ⟨_, rfl⟩
  have hw := hw M9 eM9
  rw [← eM9] at hH
  have hE10 : Ext M5 M9 := by rw [eM9]; exact Ext.sI
  have hk11 := hE10.k hk7 (by decide)
  have hk12 := hE10.k hk8 (by decide)
  have hE := hE.tr hE10
  refine lv_aload_n hx hb dX8_copies_24 rfl (lv_at hl 0 rfl) ?_
  refine lv_aload_n hx hb dX8_copies_25 rfl (lv_at hl 1 rfl) ?_
  refine co_geti S hK hH 8 3 903 (by decide) ⟨by decide, rfl, rfl, rfl⟩ (Or.inl q219) hk12 dX8_copies_26 ?_
  refine co_puti S hK hH hS 8 3 903 (by decide) ⟨by decide, rfl, rfl, rfl, rfl⟩ (Or.inl q219) hk11 ⟨rfl, rfl⟩ dX8_copies_29 (fun H locs hH hS => ?_)
  obtain ⟨M13, eM13⟩ : ∃ y : Mm, y = sI M9 903 a0 0 (mI M9 903 a1 0) := ⟨_, rfl⟩
  have hw := hw M13 eM13
  rw [← eM13] at hH
  have hE14 : Ext M9 M13 := by rw [eM13]; exact Ext.sI
  have hk15 := hE14.k hk11 (by decide)
  have hk16 := hE14.k hk12 (by decide)
  have hE := hE.tr hE14
  refine lv_aload_n hx hb dX8_copies_32 rfl (lv_at hl 0 rfl) ?_
  refine lv_aload_n hx hb dX8_copies_33 rfl (lv_at hl 1 rfl) ?_
  refine co_geti S hK hH 8 4 904 (by decide) ⟨by decide, rfl, rfl, rfl⟩ (Or.inl q221) hk16 dX8_copies_34 ?_
  refine co_puti S hK hH hS 8 4 904 (by decide) ⟨by decide, rfl, rfl, rfl, rfl⟩ (Or.inl q221) hk15 ⟨rfl, rfl⟩ dX8_copies_37 (fun H locs hH hS => ?_)
  obtain ⟨M17, eM17⟩ : ∃ y : Mm, y = sI M13 904 a0 0 (mI M13 904 a1 0) := ⟨_, rfl⟩
  have hw := hw M17 eM17
  rw [← eM17] at hH
  have hE18 : Ext M13 M17 := by rw [eM17]; exact Ext.sI
  have hk19 := hE18.k hk15 (by decide)
  have hk20 := hE18.k hk16 (by decide)
  have hE := hE.tr hE18
  refine lv_aload_n hx hb dX8_copies_40 rfl (lv_at hl 0 rfl) ?_
  refine lv_aload_n hx hb dX8_copies_41 rfl (lv_at hl 1 rfl) ?_
  refine co_geti S hK hH 8 5 905 (by decide) ⟨by decide, rfl, rfl, rfl⟩ (Or.inl q223) hk20 dX8_copies_42 ?_
  refine co_puti S hK hH hS 8 5 905 (by decide) ⟨by decide, rfl, rfl, rfl, rfl⟩ (Or.inl q223) hk19 ⟨rfl, rfl⟩ dX8_copies_45 (fun H locs hH hS => ?_)
  obtain ⟨M21, eM21⟩ : ∃ y : Mm, y = sI M17 905 a0 0 (mI M17 905 a1 0) := ⟨_, rfl⟩
  have hw := hw M21 eM21
  rw [← eM21] at hH
  have hE22 : Ext M17 M21 := by rw [eM21]; exact Ext.sI
  have hk23 := hE22.k hk19 (by decide)
  have hk24 := hE22.k hk20 (by decide)
  have hE := hE.tr hE22
  refine lv_aload_n hx hb dX8_copies_48 rfl (lv_at hl 0 rfl) ?_
  refine lv_aload_n hx hb dX8_copies_49 rfl (lv_at hl 1 rfl) ?_
  refine co_geti S hK hH 8 6 906 (by decide) ⟨by decide, rfl, rfl, rfl⟩ (Or.inl q225) hk24 dX8_copies_50 ?_
  refine co_puti S hK hH hS 8 6 906 (by decide) ⟨by decide, rfl, rfl, rfl, rfl⟩ (Or.inl q225) hk23 ⟨rfl, rfl⟩ dX8_copies_53 (fun H locs hH hS => ?_)
  obtain ⟨M25, eM25⟩ : ∃ y : Mm, y = sI M21 906 a0 0 (mI M21 906 a1 0) := ⟨_, rfl⟩
  have hw := hw M25 eM25
  rw [← eM25] at hH
  have hE26 : Ext M21 M25 := by rw [eM25]; exact Ext.sI
  have hk27 := hE26.k hk23 (by decide)
  have hk28 := hE26.k hk24 (by decide)
  have hE := hE.tr hE26
  exact co_vret S hr hlocks hH hE hS hw dX8_copies_56
/-! FarTypewriter$Guess.hasCell()Z -/
abbrev rm8_hasCell : Room := { frames := 0, cells := 0, slots := 0, locals := 0 }
def w8_hasCell (post : Int32 → Mm → Prop) (M : Mm) (a0 : Nat) : Prop :=
  ((mI M 902 a0 0) = (-1) → post 0 M) ∧ (¬ (mI M 902 a0 0) = (-1) → post 1 M)
set_option maxHeartbeats 4000000 in
set_option maxRecDepth 100000 in
theorem m8_hasCell (l : Launch) (g : CG) (AD : Nat → Prop) (M : Mm) (a0 : Nat) (post : Int32 → Mm → Prop) (hk_a0 : mK M a0 = 9) (hw : w8_hasCell post M a0) : Met l yX8_hasCell (ws_ yX8_hasCell cX8_hasCell 1 (some .boolean)) rm8_hasCell (CPc g AD M [.ref a0]) (CQi g AD M post) 0 0 AD := by
  refine Met.ofW (cc := cX8_hasCell) (maxL := 1) (ret := (some .boolean)) (by decide) rfl ?_
  intro p e s m args below meth c s₁ B hml hv
  obtain ⟨rfl, hK, hH, hA⟩ := hv
  have hx := B.exec
  have hb := B.bytes
  have hr : meth.sig.returnType = (some .boolean) := B.returns
  have hts := atoms_spec (ws := ws_ yX8_hasCell cX8_hasCell 1 (some .boolean)) B.pre
  have hts : ∀ w ∈ lw_all, w.before _ s = true := fun w h => hts w (List.mem_cons_of_mem _ h)
  have hown : s.vm.findClass RX8 = some m.cls := findClass_of_methodNamed B.named
  have hlocks : meth.locks = false := B.notSynchronized
  have S : CallFix p m c cX8_hasCell 1 s _ lw_all RX8 := ⟨hx, hb, hml, hown, hts⟩
  have hS : va_S AD s.heap s.heap [] := va_S.rf
  have hE : Ext M M := Ext.rf
  have hl := lv_entry ([.ref a0]) (n := 1) (Nat.le_of_ble_eq_true rfl)
  rw [lg_entry_eq]
  generalize (lg_sl ([.ref a0]) ++ List.replicate (1 - (lg_sl ([.ref a0])).length) Slot.unset).toArray = ls at hl ⊢
  have hl : lv_has ls 1 [(0, .ref a0)] := hl
  unfold w8_hasCell at hw
  refine lv_aload_n hx hb dX8_hasCell_0 rfl (lv_at hl 0 rfl) ?_
  refine co_geti S hK hH 8 2 902 (by decide) ⟨by decide, rfl, rfl, rfl⟩ (Or.inl q217) hk_a0 dX8_hasCell_1 ?_
  refine lv_iconst (v := (-1)) hx hb dX8_hasCell_4 (by decide) ?_
  refine lv_icmp_eq (tgt := 12) hx hb dX8_hasCell_5 (by decide) (fun c1 => ?_) (fun c1 => ?_)
  · have hw := hw.1 c1
    refine lv_iconst (v := 0) hx hb dX8_hasCell_12 (by decide) ?_
    exact co_zret S hr hlocks hH hE hS rfl hw dX8_hasCell_13
  · have hw := hw.2 c1
    refine lv_iconst (v := 1) hx hb dX8_hasCell_8 (by decide) ?_
    refine lv_goto (tgt := 13) hx hb dX8_hasCell_9 (by decide) ?_
    exact co_zret S hr hlocks hH hE hS rfl hw dX8_hasCell_13
/-! FarTypewriter$Guess.<init>()V -/
abbrev rm8_init : Room := { frames := 1, cells := 0, slots := 0, locals := 12 }
def w8_init (post : Mm → Prop) (M : Mm) (a0 : Nat) : Prop :=
  post M
set_option maxHeartbeats 4000000 in
set_option maxRecDepth 100000 in
theorem m8_init (l : Launch) (g : CG) (AD : Nat → Prop) (M : Mm) (a0 : Nat) (post : Mm → Prop) (hk_a0 : mK M a0 = 9) (hw : w8_init post M a0) : Met l yX8_init (ws_ yX8_init cX8_init 1 none) rm8_init (CPc g AD M [.ref a0]) (CQv g AD M post) 0 0 AD := by
  refine Met.ofW (cc := cX8_init) (maxL := 1) (ret := none) (by decide) rfl ?_
  intro p e s m args below meth c s₁ B hml hv
  obtain ⟨rfl, hK, hH, hA⟩ := hv
  have hx := B.exec
  have hb := B.bytes
  have hr : meth.sig.returnType = none := B.returns
  have hts := atoms_spec (ws := ws_ yX8_init cX8_init 1 none) B.pre
  have hts : ∀ w ∈ lw_all, w.before _ s = true := fun w h => hts w (List.mem_cons_of_mem _ h)
  have hown : s.vm.findClass RX8 = some m.cls := findClass_of_methodNamed B.named
  have hlocks : meth.locks = false := B.notSynchronized
  have hin : meth.name = "<init>" := (name_of_methodNamed B.named B.method).1
  have S : CallFix p m c cX8_init 1 s _ lw_all RX8 := ⟨hx, hb, hml, hown, hts⟩
  have hS : va_S AD s.heap s.heap [] := va_S.rf
  have hE : Ext M M := Ext.rf
  have hl := lv_entry ([.ref a0]) (n := 1) (Nat.le_of_ble_eq_true rfl)
  rw [lg_entry_eq]
  generalize (lg_sl ([.ref a0]) ++ List.replicate (1 - (lg_sl ([.ref a0])).length) Slot.unset).toArray = ls at hl ⊢
  have hl : lv_has ls 1 [(0, .ref a0)] := hl
  unfold w8_init at hw
  refine lv_aload_n hx hb dX8_init_0 rfl (lv_at hl 0 rfl) ?_
  refine W.objInit hx hb hown (hts _ q212) (hts _ q81) (hts _ q82) rfl (by rw [S.2.2.1]; exact hl.1) rfl dX8_init_1 (Nat.le_of_ble_eq_true rfl) (Nat.le_of_ble_eq_true rfl) ?_
  refine W.eq (g2 := F0 m 4 ls []) rfl ?_
  exact co_vret S hr hlocks hH hE hS hw dX8_init_4
/-! FarTypewriter$Guess.isRight(LFarTypewriter$State;)Z -/
abbrev rm8_isRight : Room := { frames := 1, cells := 0, slots := 0, locals := 20 }
def w8_isRight (post : Int32 → Mm → Prop) (M : Mm) (a0 : Nat) (a1 : Nat) : Prop :=
  w8_hasCell (fun (r2 : Int32) (M1 : Mm) => (r2 = 0 → ((mI M1 900 a0 0) < (mI M1 502 a1 0) → post 1 M1) ∧ (¬ (mI M1 900 a0 0) < (mI M1 502 a1 0) → mK M1 (mP M1 500 a1 0) = 6 ∧ (((mI M1 602 (mP M1 500 a1 0) 0) = (mI M1 905 a0 0) → mK M1 (mP M1 500 a1 0) = 6 ∧ (((mI M1 603 (mP M1 500 a1 0) 0) = (mI M1 906 a0 0) → post 1 M1) ∧ (¬ (mI M1 603 (mP M1 500 a1 0) 0) = (mI M1 906 a0 0) → post 0 M1))) ∧ (¬ (mI M1 602 (mP M1 500 a1 0) 0) = (mI M1 905 a0 0) → post 0 M1)))) ∧ (¬ r2 = 0 → mK M1 (mP M1 500 a1 0) = 6 ∧ (mK M1 (mP M1 600 (mP M1 500 a1 0) 0) = 21 ∧ (vp_in (mI M1 902 a0 0) 8 ∧ (mK M1 (mP M1 21 (mP M1 600 (mP M1 500 a1 0) 0) (mI M1 902 a0 0).toNatClampNeg) = 20 ∧ (vp_in (mI M1 903 a0 0) 24 ∧ (((mI M1 20 (mP M1 21 (mP M1 600 (mP M1 500 a1 0) 0) (mI M1 902 a0 0).toNatClampNeg) (mI M1 903 a0 0).toNatClampNeg) = (mI M1 904 a0 0) → post 1 M1) ∧ (¬ (mI M1 20 (mP M1 21 (mP M1 600 (mP M1 500 a1 0) 0) (mI M1 902 a0 0).toNatClampNeg) (mI M1 903 a0 0).toNatClampNeg) = (mI M1 904 a0 0) → post 0 M1)))))))) M a0
set_option maxHeartbeats 4000000 in
set_option maxRecDepth 100000 in
theorem m8_isRight (l : Launch) (g : CG) (AD : Nat → Prop) (M : Mm) (a0 : Nat) (a1 : Nat) (post : Int32 → Mm → Prop) (hk_a0 : mK M a0 = 9) (hk_a1 : mK M a1 = 5) (hw : w8_isRight post M a0 a1) : Met l yX8_isRight (ws_ yX8_isRight cX8_isRight 2 (some .boolean)) rm8_isRight (CPc g AD M [.ref a0, .ref a1]) (CQi g AD M post) 0 0 AD := by
  refine Met.ofW (cc := cX8_isRight) (maxL := 2) (ret := (some .boolean)) (by decide) rfl ?_
  intro p e s m args below meth c s₁ B hml hv
  obtain ⟨rfl, hK, hH, hA⟩ := hv
  have hx := B.exec
  have hb := B.bytes
  have hr : meth.sig.returnType = (some .boolean) := B.returns
  have hts := atoms_spec (ws := ws_ yX8_isRight cX8_isRight 2 (some .boolean)) B.pre
  have hts : ∀ w ∈ lw_all, w.before _ s = true := fun w h => hts w (List.mem_cons_of_mem _ h)
  have hown : s.vm.findClass RX8 = some m.cls := findClass_of_methodNamed B.named
  have hlocks : meth.locks = false := B.notSynchronized
  have S : CallFix p m c cX8_isRight 2 s _ lw_all RX8 := ⟨hx, hb, hml, hown, hts⟩
  have hS : va_S AD s.heap s.heap [] := va_S.rf
  have hE : Ext M M := Ext.rf
  have hl := lv_entry ([.ref a0, .ref a1]) (n := 2) (Nat.le_of_ble_eq_true rfl)
  rw [lg_entry_eq]
  generalize (lg_sl ([.ref a0, .ref a1]) ++ List.replicate (2 - (lg_sl ([.ref a0, .ref a1])).length) Slot.unset).toArray = ls at hl ⊢
  have hl : lv_has ls 2 [(0, .ref a0), (1, .ref a1)] := hl
  unfold w8_isRight at hw
  refine lv_aload_n hx hb dX8_isRight_0 rfl (lv_at hl 0 rfl) ?_
  refine co_calli (va_runV (As := []) (rest := []) S (m8_hasCell l g AD M a0 _ hk_a0 hw) (cwV 0 hts (lw_V q541 q542 q543 q62 q544) rfl rfl rfl (by decide +kernel) ⟨Nat.le_of_ble_eq_true rfl, Nat.le_of_ble_eq_true rfl⟩) ⟨co_blind, co_recv hK hH (c := 8) (by decide) hk_a0, co_pre hK hH hA hS⟩ rfl rfl hl.1 rfl (lv_room (Nat.le_of_ble_eq_true rfl)) dX8_isRight_1 ⟨Nat.le_refl _, Nat.le_refl _⟩) hS (fun r2 M1 H locs hw hH hE3 hS => ?_)
  have hk5 := hE3.k hk_a0 (by decide)
  have hk6 := hE3.k hk_a1 (by decide)
  have hE := hE.tr hE3
  refine lv_if_eq (tgt := 37) hx hb dX8_isRight_4 (by decide) (fun c7 => ?_) (fun c7 => ?_)
  · have hw := hw.1 c7
    refine lv_aload_n hx hb dX8_isRight_37 rfl (lv_at hl 0 rfl) ?_
    refine co_geti S hK hH 8 0 900 (by decide) ⟨by decide, rfl, rfl, rfl⟩ (Or.inl q213) hk5 dX8_isRight_38 ?_
    refine lv_aload_n hx hb dX8_isRight_41 rfl (lv_at hl 1 rfl) ?_
    refine co_geti S hK hH 4 2 502 (by decide) ⟨by decide, rfl, rfl, rfl⟩ (Or.inr ⟨_, q177⟩) hk6 dX8_isRight_42 ?_
    refine lv_icmp_lt (tgt := 76) hx hb dX8_isRight_45 (by decide) (fun c8 => ?_) (fun c8 => ?_)
    · have hw := hw.1 c8
      refine lv_iconst (v := 1) hx hb dX8_isRight_76 (by decide) ?_
      refine lv_goto (tgt := 81) hx hb dX8_isRight_77 (by decide) ?_
      exact co_zret S hr hlocks hH hE hS rfl hw dX8_isRight_81
    · have hw := hw.2 c8
      refine lv_aload_n hx hb dX8_isRight_48 rfl (lv_at hl 1 rfl) ?_
      have hk9 := hw.1
      have hw := hw.2
      refine co_getr S hK hH 4 0 500 (by decide) ⟨by decide, rfl, rfl, rfl⟩ (Or.inr ⟨_, q173⟩) hk6 (by rw [hk9]; decide) dX8_isRight_49 ?_
      refine co_geti S hK hH 5 2 602 (by decide) ⟨by decide, rfl, rfl, rfl⟩ (Or.inr ⟨_, q155⟩) hk9 dX8_isRight_52 ?_
      refine lv_aload_n hx hb dX8_isRight_55 rfl (lv_at hl 0 rfl) ?_
      refine co_geti S hK hH 8 5 905 (by decide) ⟨by decide, rfl, rfl, rfl⟩ (Or.inl q223) hk5 dX8_isRight_56 ?_
      refine lv_icmp_ne (tgt := 80) hx hb dX8_isRight_59 (by decide) (fun c10 => ?_) (fun c10 => ?_)
      · have hw := hw.2 c10
        refine lv_iconst (v := 0) hx hb dX8_isRight_80 (by decide) ?_
        exact co_zret S hr hlocks hH hE hS rfl hw dX8_isRight_81
      · have hw := hw.1 c10
        refine lv_aload_n hx hb dX8_isRight_62 rfl (lv_at hl 1 rfl) ?_
        have hk11 := hw.1
        have hw := hw.2
        refine co_getr S hK hH 4 0 500 (by decide) ⟨by decide, rfl, rfl, rfl⟩ (Or.inr ⟨_, q173⟩) hk6 (by rw [hk11]; decide) dX8_isRight_63 ?_
        refine co_geti S hK hH 5 3 603 (by decide) ⟨by decide, rfl, rfl, rfl⟩ (Or.inr ⟨_, q160⟩) hk11 dX8_isRight_66 ?_
        refine lv_aload_n hx hb dX8_isRight_69 rfl (lv_at hl 0 rfl) ?_
        refine co_geti S hK hH 8 6 906 (by decide) ⟨by decide, rfl, rfl, rfl⟩ (Or.inl q225) hk5 dX8_isRight_70 ?_
        refine lv_icmp_ne (tgt := 80) hx hb dX8_isRight_73 (by decide) (fun c12 => ?_) (fun c12 => ?_)
        · have hw := hw.2 c12
          refine lv_iconst (v := 0) hx hb dX8_isRight_80 (by decide) ?_
          exact co_zret S hr hlocks hH hE hS rfl hw dX8_isRight_81
        · have hw := hw.1 c12
          refine lv_iconst (v := 1) hx hb dX8_isRight_76 (by decide) ?_
          refine lv_goto (tgt := 81) hx hb dX8_isRight_77 (by decide) ?_
          exact co_zret S hr hlocks hH hE hS rfl hw dX8_isRight_81
  · have hw := hw.2 c7
    refine lv_aload_n hx hb dX8_isRight_7 rfl (lv_at hl 1 rfl) ?_
    have hk13 := hw.1
    have hw := hw.2
    refine co_getr S hK hH 4 0 500 (by decide) ⟨by decide, rfl, rfl, rfl⟩ (Or.inr ⟨_, q173⟩) hk6 (by rw [hk13]; decide) dX8_isRight_8 ?_
    have hk14 := hw.1
    have hw := hw.2
    refine co_getr S hK hH 5 0 600 (by decide) ⟨by decide, rfl, rfl, rfl⟩ (Or.inr ⟨_, q149⟩) hk13 (by rw [hk14]; decide) dX8_isRight_11 ?_
    refine lv_aload_n hx hb dX8_isRight_14 rfl (lv_at hl 0 rfl) ?_
    refine co_geti S hK hH 8 2 902 (by decide) ⟨by decide, rfl, rfl, rfl⟩ (Or.inl q217) hk5 dX8_isRight_15 ?_
    have hin15 := hw.1
    have hw := hw.2
    have hk16 := hw.1
    have hw := hw.2
    refine co_aald S hK hH 1 21 ⟨by decide, rfl, rfl⟩ hk14 hin15 (by rw [hk16]; decide) dX8_isRight_18 ?_
    refine lv_aload_n hx hb dX8_isRight_19 rfl (lv_at hl 0 rfl) ?_
    refine co_geti S hK hH 8 3 903 (by decide) ⟨by decide, rfl, rfl, rfl⟩ (Or.inl q219) hk5 dX8_isRight_20 ?_
    have hin17 := hw.1
    have hw := hw.2
    refine co_bald S hK hH 0 20 ⟨by decide, rfl, rfl⟩ hk16 hin17 dX8_isRight_23 ?_
    refine lv_aload_n hx hb dX8_isRight_24 rfl (lv_at hl 0 rfl) ?_
    refine co_geti S hK hH 8 4 904 (by decide) ⟨by decide, rfl, rfl, rfl⟩ (Or.inl q221) hk5 dX8_isRight_25 ?_
    refine lv_icmp_ne (tgt := 35) hx hb dX8_isRight_28 (by decide) (fun c18 => ?_) (fun c18 => ?_)
    · have hw := hw.2 c18
      refine lv_iconst (v := 0) hx hb dX8_isRight_35 (by decide) ?_
      exact co_zret S hr hlocks hH hE hS rfl hw dX8_isRight_36
    · have hw := hw.1 c18
      refine lv_iconst (v := 1) hx hb dX8_isRight_31 (by decide) ?_
      refine lv_goto (tgt := 36) hx hb dX8_isRight_32 (by decide) ?_
      exact co_zret S hr hlocks hH hE hS rfl hw dX8_isRight_36
/-! FarTypewriter$Guess.lays(LFarTypewriter$Screen;)V -/
abbrev rm8_lays : Room := { frames := 1, cells := 0, slots := 0, locals := 24 }
def w8_lays_24 (post : Mm → Prop)  (M : Mm) (a0 : Nat) (a1 : Nat) : Prop :=
  ∀ M8 : Mm, M8 = sI M 602 a1 0 (mI M 905 a0 0) → (∀ M12 : Mm, M12 = sI M8 603 a1 0 (mI M8 906 a0 0) → (post M12))
set_option maxHeartbeats 4000000 in
set_option maxRecDepth 100000 in
theorem r8_lays_24 {p : Program} {l : Launch} {e : Env} {s : State} {m : MethodId} {args : Array Value} {below : List Frame} {meth : Method} {c : Code} {g : CG} {AD : Nat → Prop} {M0 : Mm} (S : CallFix p m c cX8_lays 2 s args lw_all RX8) (hr : meth.sig.returnType = none) (hlocks : meth.locks = false) (hK : KC g s) (hA : ∀ q, s.heap.size ≤ q → AD q) {post : Mm → Prop}  : ∀ (M : Mm) (a0 : Nat) (a1 : Nat), w8_lays_24 post  M a0 a1 → Ext M0 M → mK M a0 = 9 → mK M a1 = 6 → ∀ (H : Heap) (locs : List Loc), HC g AD M H → va_S AD s.heap H locs → ∀ (ls : Array Slot), lv_has ls 2 [(0, .ref a0), (1, .ref a1)] → W p l e rm8_lays s m args below meth c H locs 0 0 (MQ below (CQv g AD M0 post) args s 0 0 AD) (F0 m 24 ls []) := by
  have hx := S.1
  have hb := S.2.1
  have hown := S.2.2.2.1
  have hts := S.2.2.2.2
  intro M a0 a1 hw hE hk_a0 hk_a1 H locs hH hS ls hl
  unfold w8_lays_24 at hw
  refine lv_aload_n hx hb dX8_lays_24 rfl (lv_at hl 1 rfl) ?_
  refine lv_aload_n hx hb dX8_lays_25 rfl (lv_at hl 0 rfl) ?_
  refine co_geti S hK hH 8 5 905 (by decide) ⟨by decide, rfl, rfl, rfl⟩ (Or.inl q223) hk_a0 dX8_lays_26 ?_
  refine co_puti S hK hH hS 5 2 602 (by decide) ⟨by decide, rfl, rfl, rfl, rfl⟩ (Or.inr ⟨_, q155⟩) hk_a1 ⟨rfl, rfl⟩ dX8_lays_29 (fun H locs hH hS => ?_)
  obtain ⟨M8, eM8⟩ : ∃ y : Mm, y = sI M 602 a1 0 (mI M 905 a0 0) := ⟨_, rfl⟩
  have hw := hw M8 eM8
  rw [← eM8] at hH
  have hE9 : Ext M M8 := by rw [eM8]; exact Ext.sI
  have hk10 := hE9.k hk_a0 (by decide)
  have hk11 := hE9.k hk_a1 (by decide)
  have hE := hE.tr hE9
  refine lv_aload_n hx hb dX8_lays_32 rfl (lv_at hl 1 rfl) ?_
  refine lv_aload_n hx hb dX8_lays_33 rfl (lv_at hl 0 rfl) ?_
  refine co_geti S hK hH 8 6 906 (by decide) ⟨by decide, rfl, rfl, rfl⟩ (Or.inl q225) hk10 dX8_lays_34 ?_
  refine co_puti S hK hH hS 5 3 603 (by decide) ⟨by decide, rfl, rfl, rfl, rfl⟩ (Or.inr ⟨_, q160⟩) hk11 ⟨rfl, rfl⟩ dX8_lays_37 (fun H locs hH hS => ?_)
  obtain ⟨M12, eM12⟩ : ∃ y : Mm, y = sI M8 603 a1 0 (mI M8 906 a0 0) := ⟨_, rfl⟩
  have hw := hw M12 eM12
  rw [← eM12] at hH
  have hE13 : Ext M8 M12 := by rw [eM12]; exact Ext.sI
  have hk14 := hE13.k hk10 (by decide)
  have hk15 := hE13.k hk11 (by decide)
  have hE := hE.tr hE13
  exact co_vret S hr hlocks hH hE hS hw dX8_lays_40
def w8_lays (post : Mm → Prop) (M : Mm) (a0 : Nat) (a1 : Nat) : Prop :=
  w8_hasCell (fun (r2 : Int32) (M1 : Mm) => (r2 = 0 → w8_lays_24 post M1 a0 a1) ∧ (¬ r2 = 0 → w5_put (fun (M16 : Mm) => w8_lays_24 post M16 a0 a1) M1 a1 (mI M1 902 a0 0) (mI M1 903 a0 0) (mI M1 904 a0 0) 3)) M a0
set_option maxHeartbeats 4000000 in
set_option maxRecDepth 100000 in
theorem m8_lays (l : Launch) (g : CG) (AD : Nat → Prop) (M : Mm) (a0 : Nat) (a1 : Nat) (post : Mm → Prop) (hk_a0 : mK M a0 = 9) (hk_a1 : mK M a1 = 6) (hw : w8_lays post M a0 a1) : Met l yX8_lays (ws_ yX8_lays cX8_lays 2 none) rm8_lays (CPc g AD M [.ref a0, .ref a1]) (CQv g AD M post) 0 0 AD := by
  refine Met.ofW (cc := cX8_lays) (maxL := 2) (ret := none) (by decide) rfl ?_
  intro p e s m args below meth c s₁ B hml hv
  obtain ⟨rfl, hK, hH, hA⟩ := hv
  have hx := B.exec
  have hb := B.bytes
  have hr : meth.sig.returnType = none := B.returns
  have hts := atoms_spec (ws := ws_ yX8_lays cX8_lays 2 none) B.pre
  have hts : ∀ w ∈ lw_all, w.before _ s = true := fun w h => hts w (List.mem_cons_of_mem _ h)
  have hown : s.vm.findClass RX8 = some m.cls := findClass_of_methodNamed B.named
  have hlocks : meth.locks = false := B.notSynchronized
  have S : CallFix p m c cX8_lays 2 s _ lw_all RX8 := ⟨hx, hb, hml, hown, hts⟩
  have hS : va_S AD s.heap s.heap [] := va_S.rf
  have hE : Ext M M := Ext.rf
  have hl := lv_entry ([.ref a0, .ref a1]) (n := 2) (Nat.le_of_ble_eq_true rfl)
  rw [lg_entry_eq]
  generalize (lg_sl ([.ref a0, .ref a1]) ++ List.replicate (2 - (lg_sl ([.ref a0, .ref a1])).length) Slot.unset).toArray = ls at hl ⊢
  have hl : lv_has ls 2 [(0, .ref a0), (1, .ref a1)] := hl
  unfold w8_lays at hw
  refine lv_aload_n hx hb dX8_lays_0 rfl (lv_at hl 0 rfl) ?_
  refine co_calli (va_runV (As := []) (rest := []) S (m8_hasCell l g AD M a0 _ hk_a0 hw) (cwV 0 hts (lw_V q541 q542 q543 q62 q544) rfl rfl rfl (by decide +kernel) ⟨Nat.le_of_ble_eq_true rfl, Nat.le_of_ble_eq_true rfl⟩) ⟨co_blind, co_recv hK hH (c := 8) (by decide) hk_a0, co_pre hK hH hA hS⟩ rfl rfl hl.1 rfl (lv_room (Nat.le_of_ble_eq_true rfl)) dX8_lays_1 ⟨Nat.le_refl _, Nat.le_refl _⟩) hS (fun r2 M1 H locs hw hH hE3 hS => ?_)
  have hk5 := hE3.k hk_a0 (by decide)
  have hk6 := hE3.k hk_a1 (by decide)
  have hE := hE.tr hE3
  refine lv_if_eq (tgt := 24) hx hb dX8_lays_4 (by decide) (fun c7 => ?_) (fun c7 => ?_)
  · have hw := hw.1 c7
    exact r8_lays_24 S hr hlocks hK hA  _ _ _ hw hE hk5 hk6 _ _ hH hS _ (lv_sub hl [0, 1] rfl)
  · have hw := hw.2 c7
    refine lv_aload_n hx hb dX8_lays_7 rfl (lv_at hl 1 rfl) ?_
    refine lv_aload_n hx hb dX8_lays_8 rfl (lv_at hl 0 rfl) ?_
    refine co_geti S hK hH 8 2 902 (by decide) ⟨by decide, rfl, rfl, rfl⟩ (Or.inl q217) hk5 dX8_lays_9 ?_
    refine lv_aload_n hx hb dX8_lays_12 rfl (lv_at hl 0 rfl) ?_
    refine co_geti S hK hH 8 3 903 (by decide) ⟨by decide, rfl, rfl, rfl⟩ (Or.inl q219) hk5 dX8_lays_13 ?_
    refine lv_aload_n hx hb dX8_lays_16 rfl (lv_at hl 0 rfl) ?_
    refine co_geti S hK hH 8 4 904 (by decide) ⟨by decide, rfl, rfl, rfl⟩ (Or.inl q221) hk5 dX8_lays_17 ?_
    refine lv_iconst (v := 3) hx hb dX8_lays_20 (by decide) ?_
    refine co_callv (va_runV (As := [.int (mI M1 902 a0 0), .int (mI M1 903 a0 0), .int (mI M1 904 a0 0), .int 3]) (rest := []) S (m5_put l g AD M1 a1 (mI M1 902 a0 0) (mI M1 903 a0 0) (mI M1 904 a0 0) 3 _ hk6 hw) (cwV 4 hts (lw_V q545 q145 q146 q59 q147) rfl rfl rfl (by decide +kernel) ⟨Nat.le_of_ble_eq_true rfl, Nat.le_of_ble_eq_true rfl⟩) ⟨co_blind, co_recv hK hH (c := 5) (by decide) hk6, co_pre hK hH hA hS⟩ rfl rfl hl.1 rfl (lv_room (Nat.le_of_ble_eq_true rfl)) dX8_lays_21 ⟨Nat.le_refl _, Nat.le_refl _⟩) hS (fun M16 H locs hw hH hE18 hS => ?_)
    have hk20 := hE18.k hk5 (by decide)
    have hk21 := hE18.k hk6 (by decide)
    have hE := hE.tr hE18
    exact r8_lays_24 S hr hlocks hK hA  _ _ _ hw hE hk20 hk21 _ _ hH hS _ (lv_sub hl [0, 1] rfl)
/-! FarTypewriter.alike()Z -/
abbrev rm0_alike : Room := { frames := 2, cells := 0, slots := 0, locals := 46 }
def w0_alike (post : Int32 → Mm → Prop) (M : Mm) (a0 : Nat) : Prop :=
  mK M (mP M 126 a0 0) = 6 ∧ (mK M (mP M 114 a0 0) = 4 ∧ (w3_newest (fun (r4 : Nat) (M3 : Mm) => mK M3 (mP M3 500 r4 0) = 6 ∧ (w5_isSame (fun (r11 : Int32) (M10 : Mm) => (r11 = 0 ∨ r11 = 1) ∧ (post r11 M10)) M3 (mP M 126 a0 0) (mP M3 500 r4 0))) M (mP M 114 a0 0)))
set_option maxHeartbeats 4000000 in
set_option maxRecDepth 100000 in
theorem m0_alike (l : Launch) (g : CG) (AD : Nat → Prop) (M : Mm) (a0 : Nat) (post : Int32 → Mm → Prop) (hk_a0 : mK M a0 = 1) (hw : w0_alike post M a0) : Met l yX0_alike (ws_ yX0_alike cX0_alike 1 (some .boolean)) rm0_alike (CPc g AD M [.ref a0]) (CQi g AD M post) 0 0 AD := by
  refine Met.ofW (cc := cX0_alike) (maxL := 1) (ret := (some .boolean)) (by decide) rfl ?_
  intro p e s m args below meth c s₁ B hml hv
  obtain ⟨rfl, hK, hH, hA⟩ := hv
  have hx := B.exec
  have hb := B.bytes
  have hr : meth.sig.returnType = (some .boolean) := B.returns
  have hts := atoms_spec (ws := ws_ yX0_alike cX0_alike 1 (some .boolean)) B.pre
  have hts : ∀ w ∈ lw_all, w.before _ s = true := fun w h => hts w (List.mem_cons_of_mem _ h)
  have hown : s.vm.findClass RX0 = some m.cls := findClass_of_methodNamed B.named
  have hlocks : meth.locks = false := B.notSynchronized
  have S : CallFix p m c cX0_alike 1 s _ lw_all RX0 := ⟨hx, hb, hml, hown, hts⟩
  have hS : va_S AD s.heap s.heap [] := va_S.rf
  have hE : Ext M M := Ext.rf
  have hl := lv_entry ([.ref a0]) (n := 1) (Nat.le_of_ble_eq_true rfl)
  rw [lg_entry_eq]
  generalize (lg_sl ([.ref a0]) ++ List.replicate (1 - (lg_sl ([.ref a0])).length) Slot.unset).toArray = ls at hl ⊢
  have hl : lv_has ls 1 [(0, .ref a0)] := hl
  unfold w0_alike at hw
  refine lv_aload_n hx hb dX0_alike_0 rfl (lv_at hl 0 rfl) ?_
  have hk1 := hw.1
  have hw := hw.2
  refine co_getr S hK hH 0 26 126 (by decide) ⟨by decide, rfl, rfl, rfl⟩ (Or.inl q287) hk_a0 (by rw [hk1]; decide) dX0_alike_1 ?_
  refine lv_aload_n hx hb dX0_alike_4 rfl (lv_at hl 0 rfl) ?_
  have hk2 := hw.1
  have hw := hw.2
  refine co_getr S hK hH 0 14 114 (by decide) ⟨by decide, rfl, rfl, rfl⟩ (Or.inl q275) hk_a0 (by rw [hk2]; decide) dX0_alike_5 ?_
  refine co_callr (va_runV (As := []) (rest := [.ref (mP M 126 a0 0)]) S (m3_newest l g AD M (mP M 114 a0 0) _ hk2 hw) (cwV 0 hts (lw_V q536 q258 q259 q57 q260) rfl rfl rfl (by decide +kernel) ⟨Nat.le_of_ble_eq_true rfl, Nat.le_of_ble_eq_true rfl⟩) ⟨co_blind, co_recv hK hH (c := 3) (by decide) hk2, co_pre hK hH hA hS⟩ rfl rfl hl.1 rfl (lv_room (Nat.le_of_ble_eq_true rfl)) dX0_alike_8 ⟨Nat.le_refl _, Nat.le_refl _⟩) hS (fun r4 M3 H locs hw hH hE5 hk6 hS => ?_)
  have hk7 := hE5.k hk_a0 (by decide)
  have hk8 := hE5.k hk1 (by decide)
  have hE := hE.tr hE5
  have hk6 : mK M3 r4 = 5 := hk6
  have hk9 := hw.1
  have hw := hw.2
  refine co_getr S hK hH 4 0 500 (by decide) ⟨by decide, rfl, rfl, rfl⟩ (Or.inr ⟨_, q172⟩) hk6 (by rw [hk9]; decide) dX0_alike_11 ?_
  refine co_calli (va_runV (As := [.ref (mP M3 500 r4 0)]) (rest := []) S (m5_isSame l g AD M3 (mP M 126 a0 0) (mP M3 500 r4 0) _ hk8 hk9 hw) (cwV 1 hts (lw_V q553 q554 q555 q59 q556) rfl rfl rfl (by decide +kernel) ⟨Nat.le_of_ble_eq_true rfl, Nat.le_of_ble_eq_true rfl⟩) ⟨co_blind, co_recv hK hH (c := 5) (by decide) hk8, co_pre hK hH hA hS⟩ rfl rfl hl.1 rfl (lv_room (Nat.le_of_ble_eq_true rfl)) dX0_alike_14 ⟨Nat.le_refl _, Nat.le_refl _⟩) hS (fun r11 M10 H locs hw hH hE12 hS => ?_)
  have hk14 := hE12.k hk7 (by decide)
  have hE := hE.tr hE12
  have hz := hw.1
  have hw := hw.2
  exact co_zret S hr hlocks hH hE hS (mo_bool hz).1 hw dX0_alike_17
/-! FarTypewriter.begin()V -/
abbrev rm0_begin : Room := { frames := 3, cells := 19, slots := 404, locals := 222 }
def b0_begin_35 (post : Mm → Prop) (k69 : Mm → Nat → Prop) (kb : Mm → Nat → Nat → Prop) (M : Mm) (a0 : Nat) (a1 : Nat) : Prop :=
  w3_next (fun (r29 : Nat) (M28 : Mm) => mK M28 (mP M28 500 r29 0) = 6 ∧ (mK M28 (mP M28 126 a0 0) = 6 ∧ (w5_copies (fun (M36 : Mm) => ∀ M43 : Mm, M43 = sI M36 501 r29 0 0 → (∀ M48 : Mm, M48 = sI M43 502 r29 0 0 → (mK M48 (mP M48 125 a0 0) = 4 ∧ ((a1 = (mP M48 125 a0 0) → k69 M48 a0) ∧ (¬ a1 = (mP M48 125 a0 0) → mK M48 (mP M48 125 a0 0) = 4 ∧ (kb M48 a0 (mP M48 125 a0 0))))))) M28 (mP M28 500 r29 0) (mP M28 126 a0 0)))) M a1
def w0_begin_35 (post : Mm → Prop) (k69 : Mm → Nat → Prop) : Nat → Mm → Nat → Nat → Prop
  | 0 => fun _ _ _ => False
  | n + 1 => b0_begin_35 post k69 (w0_begin_35 post k69 n)
set_option maxHeartbeats 4000000 in
set_option maxRecDepth 100000 in
theorem r0_begin_35 {p : Program} {l : Launch} {e : Env} {s : State} {m : MethodId} {args : Array Value} {below : List Frame} {meth : Method} {c : Code} {g : CG} {AD : Nat → Prop} {M0 : Mm} (S : CallFix p m c cX0_begin 3 s args lw_all RX0) (hr : meth.sig.returnType = none) (hlocks : meth.locks = false) (hK : KC g s) (hA : ∀ q, s.heap.size ≤ q → AD q) {post : Mm → Prop} {k69 : Mm → Nat → Prop} (hk69 : ∀ (M : Mm) (a0 : Nat), k69 M a0 → Ext M0 M → mK M a0 = 1 → ∀ (H : Heap) (locs : List Loc), HC g AD M H → va_S AD s.heap H locs → ∀ (ls : Array Slot), lv_has ls 3 [(0, .ref a0)] → W p l e rm0_begin s m args below meth c H locs 19 404 (MQ below (CQv g AD M0 post) args s 19 404 AD) (F0 m 69 ls [])) : ∀ n : Nat, ∀ (M : Mm) (a0 : Nat) (a1 : Nat), w0_begin_35 post k69 n M a0 a1 → Ext M0 M → mK M a0 = 1 → mK M a1 = 4 → ∀ (H : Heap) (locs : List Loc), HC g AD M H → va_S AD s.heap H locs → ∀ (ls : Array Slot), lv_has ls 3 [(0, .ref a0), (1, .ref a1)] → W p l e rm0_begin s m args below meth c H locs 19 404 (MQ below (CQv g AD M0 post) args s 19 404 AD) (F0 m 35 ls []) := by
  have hx := S.1
  have hb := S.2.1
  have hown := S.2.2.2.1
  have hts := S.2.2.2.2
  intro n
  induction n with
  | zero =>
    intro M a0 a1 hw
    exact hw.elim
  | succ n hkb =>
    intro M a0 a1 hw hE hk_a0 hk_a1 H locs hH hS ls hl
    unfold w0_begin_35 b0_begin_35 at hw
    refine lv_aload_n hx hb dX0_begin_35 rfl (lv_at hl 1 rfl) ?_
    refine co_callr (va_runV (As := []) (rest := []) S (m3_next l g AD M a1 _ hk_a1 hw) (cwV 0 hts (lw_V q253 q254 q255 q57 q256) rfl rfl rfl (by decide +kernel) ⟨Nat.le_of_ble_eq_true rfl, Nat.le_of_ble_eq_true rfl⟩) ⟨co_blind, co_recv hK hH (c := 3) (by decide) hk_a1, co_pre hK hH hA hS⟩ rfl rfl hl.1 rfl (lv_room (Nat.le_of_ble_eq_true rfl)) dX0_begin_36 ⟨(Nat.le_of_ble_eq_true rfl), (Nat.le_of_ble_eq_true rfl)⟩) hS (fun r29 M28 H locs hw hH hE30 hk31 hS => ?_)
    have hk32 := hE30.k hk_a0 (by decide)
    have hk33 := hE30.k hk_a1 (by decide)
    have hE := hE.tr hE30
    have hk31 : mK M28 r29 = 5 := hk31
    refine lv_astore_n (lv' := [(2, .ref r29), (0, .ref a0), (1, .ref a1)]) hx hb dX0_begin_39 rfl hl (by decide) rfl (fun ls hl => ?_)
    refine lv_aload_n hx hb dX0_begin_40 rfl (lv_at hl 0 rfl) ?_
    have hk34 := hw.1
    have hw := hw.2
    refine co_getr S hK hH 4 0 500 (by decide) ⟨by decide, rfl, rfl, rfl⟩ (Or.inr ⟨_, q172⟩) hk31 (by rw [hk34]; decide) dX0_begin_41 ?_
    refine lv_aload_n hx hb dX0_begin_44 rfl (lv_at hl 1 rfl) ?_
    have hk35 := hw.1
    have hw := hw.2
    refine co_getr S hK hH 0 26 126 (by decide) ⟨by decide, rfl, rfl, rfl⟩ (Or.inl q287) hk32 (by rw [hk35]; decide) dX0_begin_45 ?_
    refine co_callv (va_runV (As := [.ref (mP M28 126 a0 0)]) (rest := []) S (m5_copies l g AD M28 (mP M28 500 r29 0) (mP M28 126 a0 0) _ hk34 hk35 hw) (cwV 1 hts (lw_V q246 q247 q248 q59 q249) rfl rfl rfl (by decide +kernel) ⟨Nat.le_of_ble_eq_true rfl, Nat.le_of_ble_eq_true rfl⟩) ⟨co_blind, co_recv hK hH (c := 5) (by decide) hk34, co_pre hK hH hA hS⟩ rfl rfl hl.1 rfl (lv_room (Nat.le_of_ble_eq_true rfl)) dX0_begin_48 ⟨(Nat.le_of_ble_eq_true rfl), (Nat.le_of_ble_eq_true rfl)⟩) hS (fun M36 H locs hw hH hE38 hS => ?_)
    have hk40 := hE38.k hk32 (by decide)
    have hk41 := hE38.k hk33 (by decide)
    have hk42 := hE38.k hk31 (by decide)
    have hE := hE.tr hE38
    refine lv_aload_n hx hb dX0_begin_51 rfl (lv_at hl 0 rfl) ?_
    refine lv_iconst (v := 0) hx hb dX0_begin_52 (by decide) ?_
    refine co_puti S hK hH hS 4 1 501 (by decide) ⟨by decide, rfl, rfl, rfl, rfl⟩ (Or.inr ⟨_, q175⟩) hk42 ⟨rfl, rfl⟩ dX0_begin_53 (fun H locs hH hS => ?_)
    obtain ⟨M43, eM43⟩ : ∃ y : Mm, y = sI M36 501 r29 0 0 := ⟨_, rfl⟩
    have hw := hw M43 eM43
    rw [← eM43] at hH
    have hE44 : Ext M36 M43 := by rw [eM43]; exact Ext.sI
    have hk45 := hE44.k hk40 (by decide)
    have hk46 := hE44.k hk41 (by decide)
    have hk47 := hE44.k hk42 (by decide)
    have hE := hE.tr hE44
    refine lv_aload_n hx hb dX0_begin_56 rfl (lv_at hl 0 rfl) ?_
    refine lv_iconst (v := 0) hx hb dX0_begin_57 (by decide) ?_
    refine co_puti S hK hH hS 4 2 502 (by decide) ⟨by decide, rfl, rfl, rfl, rfl⟩ (Or.inr ⟨_, q176⟩) hk47 ⟨rfl, rfl⟩ dX0_begin_58 (fun H locs hH hS => ?_)
    obtain ⟨M48, eM48⟩ : ∃ y : Mm, y = sI M43 502 r29 0 0 := ⟨_, rfl⟩
    have hw := hw M48 eM48
    rw [← eM48] at hH
    have hE49 : Ext M43 M48 := by rw [eM48]; exact Ext.sI
    have hk50 := hE49.k hk45 (by decide)
    have hk51 := hE49.k hk46 (by decide)
    have hk52 := hE49.k hk47 (by decide)
    have hE := hE.tr hE49
    refine lv_aload_n hx hb dX0_begin_61 rfl (lv_at hl 2 rfl) ?_
    refine lv_aload_n hx hb dX0_begin_62 rfl (lv_at hl 1 rfl) ?_
    have hk53 := hw.1
    have hw := hw.2
    refine co_getr S hK hH 0 25 125 (by decide) ⟨by decide, rfl, rfl, rfl⟩ (Or.inl q286) hk50 (by rw [hk53]; decide) dX0_begin_63 ?_
    refine lv_acmp_ne (rx := some a1) (ry := some (mP M48 125 a0 0)) (tgt := 72) hx hb dX0_begin_66 (by decide) (fun c54 => ?_) (fun c54 => ?_)
    · have hw := hw.2 (fun q => c54 (congrArg some q))
      refine lv_aload_n hx hb dX0_begin_72 rfl (lv_at hl 1 rfl) ?_
      have hk55 := hw.1
      have hw := hw.2
      refine co_getr S hK hH 0 25 125 (by decide) ⟨by decide, rfl, rfl, rfl⟩ (Or.inl q286) hk50 (by rw [hk55]; decide) dX0_begin_73 ?_
      refine lv_astore_n (lv' := [(1, .ref (mP M48 125 a0 0)), (2, .ref r29), (0, .ref a0)]) hx hb dX0_begin_76 rfl hl (by decide) rfl (fun ls hl => ?_)
      refine lv_goto (tgt := 35) hx hb dX0_begin_77 (by decide) ?_
      exact hkb _ _ _ hw hE hk50 hk55 _ _ hH hS _ (lv_sub hl [2, 0] rfl)
    · have hw := hw.1 (Option.some.inj c54)
      exact hk69 _ _ hw hE hk50 _ _ hH hS _ (lv_sub hl [1] rfl)
def b0_begin_82 (post : Mm → Prop)  (kb : Mm → Nat → Int32 → Prop) (M : Mm) (a0 : Nat) (x1 : Int32) : Prop :=
  mK M (mP M 103 a0 0) = 24 ∧ ((10 ≤ x1 → mK M (mP M 104 a0 0) = 27 ∧ (vp_in 0 2 ∧ (mK M (mP M 27 (mP M 104 a0 0) (0 : Int32).toNatClampNeg) = 2 ∧ (∀ M63 : Mm, M63 = sI M 201 (mP M 27 (mP M 104 a0 0) (0 : Int32).toNatClampNeg) 0 0 → (mK M63 (mP M63 104 a0 0) = 27 ∧ (vp_in 1 2 ∧ (mK M63 (mP M63 27 (mP M63 104 a0 0) (1 : Int32).toNatClampNeg) = 2 ∧ (∀ M69 : Mm, M69 = sI M63 201 (mP M63 27 (mP M63 104 a0 0) (1 : Int32).toNatClampNeg) 0 0 → (∀ M72 : Mm, M72 = sI M69 102 a0 0 0 → (∀ M75 : Mm, M75 = sI M72 107 a0 0 0 → (∀ M78 : Mm, M78 = sI M75 108 a0 0 0 → (∀ M81 : Mm, M81 = sI M78 109 a0 0 0 → (∀ M84 : Mm, M84 = sI M81 110 a0 0 0 → (∀ M87 : Mm, M87 = sI M84 111 a0 0 1 → (∀ M90 : Mm, M90 = sI M87 112 a0 0 0 → (∀ M93 : Mm, M93 = sI M90 113 a0 0 0 → (∀ M96 : Mm, M96 = sI M93 117 a0 0 0 → (∀ M99 : Mm, M99 = sI M96 118 a0 0 0 → (∀ M102 : Mm, M102 = sI M99 119 a0 0 0 → (∀ M105 : Mm, M105 = sI M102 120 a0 0 0 → (∀ M108 : Mm, M108 = sI M105 121 a0 0 0 → (∀ M111 : Mm, M111 = sI M108 122 a0 0 1 → (∀ M114 : Mm, M114 = sI M111 123 a0 0 0 → (∀ M117 : Mm, M117 = sI M114 124 a0 0 0 → (∀ M120 : Mm, M120 = sI M117 128 a0 0 0 → (∀ M123 : Mm, M123 = sI M120 129 a0 0 1 → (∀ M126 : Mm, M126 = sI M123 130 a0 0 0 → (post M126)))))))))))))))))))))))))))) ∧ (¬ 10 ≤ x1 → mK M (mP M 103 a0 0) = 24 ∧ (vp_in x1 10 ∧ (∀ M131 : Mm, M131 = sI M 24 (mP M 103 a0 0) x1.toNatClampNeg 0 → (kb M131 a0 (x1 + 1))))))
def w0_begin_82 (post : Mm → Prop)  : Nat → Mm → Nat → Int32 → Prop
  | 0 => fun _ _ _ => False
  | n + 1 => b0_begin_82 post  (w0_begin_82 post  n)
set_option maxHeartbeats 4000000 in
set_option maxRecDepth 100000 in
theorem r0_begin_82 {p : Program} {l : Launch} {e : Env} {s : State} {m : MethodId} {args : Array Value} {below : List Frame} {meth : Method} {c : Code} {g : CG} {AD : Nat → Prop} {M0 : Mm} (S : CallFix p m c cX0_begin 3 s args lw_all RX0) (hr : meth.sig.returnType = none) (hlocks : meth.locks = false) (hK : KC g s) (hA : ∀ q, s.heap.size ≤ q → AD q) {post : Mm → Prop}  : ∀ n : Nat, ∀ (M : Mm) (a0 : Nat) (x1 : Int32), w0_begin_82 post  n M a0 x1 → Ext M0 M → mK M a0 = 1 → ∀ (H : Heap) (locs : List Loc), HC g AD M H → va_S AD s.heap H locs → ∀ (ls : Array Slot), lv_has ls 3 [(0, .ref a0), (1, .int x1)] → W p l e rm0_begin s m args below meth c H locs 19 404 (MQ below (CQv g AD M0 post) args s 19 404 AD) (F0 m 82 ls []) := by
  have hx := S.1
  have hb := S.2.1
  have hown := S.2.2.2.1
  have hts := S.2.2.2.2
  intro n
  induction n with
  | zero =>
    intro M a0 x1 hw
    exact hw.elim
  | succ n hkb =>
    intro M a0 x1 hw hE hk_a0 H locs hH hS ls hl
    unfold w0_begin_82 b0_begin_82 at hw
    refine lv_iload_n hx hb dX0_begin_82 rfl (lv_at hl 1 rfl) ?_
    refine lv_aload_n hx hb dX0_begin_83 rfl (lv_at hl 0 rfl) ?_
    have hk58 := hw.1
    have hw := hw.2
    refine co_getr S hK hH 0 3 103 (by decide) ⟨by decide, rfl, rfl, rfl⟩ (Or.inl q264) hk_a0 (by rw [hk58]; decide) dX0_begin_84 ?_
    refine co_alen (v := 10) S hK hH 4 24 ⟨by decide, rfl⟩ hk58 (by decide) dX0_begin_87 ?_
    refine lv_icmp_ge (tgt := 104) hx hb dX0_begin_88 (by decide) (fun c59 => ?_) (fun c59 => ?_)
    · have hw := hw.1 c59
      refine lv_aload_n hx hb dX0_begin_104 rfl (lv_at hl 0 rfl) ?_
      have hk60 := hw.1
      have hw := hw.2
      refine co_getr S hK hH 0 4 104 (by decide) ⟨by decide, rfl, rfl, rfl⟩ (Or.inl q265) hk_a0 (by rw [hk60]; decide) dX0_begin_105 ?_
      refine lv_iconst (v := 0) hx hb dX0_begin_108 (by decide) ?_
      have hin61 := hw.1
      have hw := hw.2
      have hk62 := hw.1
      have hw := hw.2
      refine co_aald S hK hH 7 27 ⟨by decide, rfl, rfl⟩ hk60 hin61 (by rw [hk62]; decide) dX0_begin_109 ?_
      refine lv_iconst (v := 0) hx hb dX0_begin_110 (by decide) ?_
      refine co_puti S hK hH hS 1 1 201 (by decide) ⟨by decide, rfl, rfl, rfl, rfl⟩ (Or.inr ⟨_, q111⟩) hk62 ⟨rfl, rfl⟩ dX0_begin_111 (fun H locs hH hS => ?_)
      obtain ⟨M63, eM63⟩ : ∃ y : Mm, y = sI M 201 (mP M 27 (mP M 104 a0 0) (0 : Int32).toNatClampNeg) 0 0 := ⟨_, rfl⟩
      have hw := hw M63 eM63
      rw [← eM63] at hH
      have hE64 : Ext M M63 := by rw [eM63]; exact Ext.sI
      have hk65 := hE64.k hk_a0 (by decide)
      have hE := hE.tr hE64
      refine lv_aload_n hx hb dX0_begin_114 rfl (lv_at hl 0 rfl) ?_
      have hk66 := hw.1
      have hw := hw.2
      refine co_getr S hK hH 0 4 104 (by decide) ⟨by decide, rfl, rfl, rfl⟩ (Or.inl q265) hk65 (by rw [hk66]; decide) dX0_begin_115 ?_
      refine lv_iconst (v := 1) hx hb dX0_begin_118 (by decide) ?_
      have hin67 := hw.1
      have hw := hw.2
      have hk68 := hw.1
      have hw := hw.2
      refine co_aald S hK hH 7 27 ⟨by decide, rfl, rfl⟩ hk66 hin67 (by rw [hk68]; decide) dX0_begin_119 ?_
      refine lv_iconst (v := 0) hx hb dX0_begin_120 (by decide) ?_
      refine co_puti S hK hH hS 1 1 201 (by decide) ⟨by decide, rfl, rfl, rfl, rfl⟩ (Or.inr ⟨_, q111⟩) hk68 ⟨rfl, rfl⟩ dX0_begin_121 (fun H locs hH hS => ?_)
      obtain ⟨M69, eM69⟩ : ∃ y : Mm, y = sI M63 201 (mP M63 27 (mP M63 104 a0 0) (1 : Int32).toNatClampNeg) 0 0 := ⟨_, rfl⟩
      have hw := hw M69 eM69
      rw [← eM69] at hH
      have hE70 : Ext M63 M69 := by rw [eM69]; exact Ext.sI
      have hk71 := hE70.k hk65 (by decide)
      have hE := hE.tr hE70
      refine lv_aload_n hx hb dX0_begin_124 rfl (lv_at hl 0 rfl) ?_
      refine lv_iconst (v := 0) hx hb dX0_begin_125 (by decide) ?_
      refine co_puti S hK hH hS 0 2 102 (by decide) ⟨by decide, rfl, rfl, rfl, rfl⟩ (Or.inl q263) hk71 ⟨rfl, rfl⟩ dX0_begin_126 (fun H locs hH hS => ?_)
      obtain ⟨M72, eM72⟩ : ∃ y : Mm, y = sI M69 102 a0 0 0 := ⟨_, rfl⟩
      have hw := hw M72 eM72
      rw [← eM72] at hH
      have hE73 : Ext M69 M72 := by rw [eM72]; exact Ext.sI
      have hk74 := hE73.k hk71 (by decide)
      have hE := hE.tr hE73
      refine lv_aload_n hx hb dX0_begin_129 rfl (lv_at hl 0 rfl) ?_
      refine lv_iconst (v := 0) hx hb dX0_begin_130 (by decide) ?_
      refine co_puti S hK hH hS 0 7 107 (by decide) ⟨by decide, rfl, rfl, rfl, rfl⟩ (Or.inl q268) hk74 ⟨rfl, rfl⟩ dX0_begin_131 (fun H locs hH hS => ?_)
      obtain ⟨M75, eM75⟩ : ∃ y : Mm, y = sI M72 107 a0 0 0 := ⟨_, rfl⟩
      have hw := hw M75 eM75
      rw [← eM75] at hH
      have hE76 : Ext M72 M75 := by rw [eM75]; exact Ext.sI
      have hk77 := hE76.k hk74 (by decide)
      have hE := hE.tr hE76
      refine lv_aload_n hx hb dX0_begin_134 rfl (lv_at hl 0 rfl) ?_
      refine lv_iconst (v := 0) hx hb dX0_begin_135 (by decide) ?_
      refine co_puti S hK hH hS 0 8 108 (by decide) ⟨by decide, rfl, rfl, rfl, rfl⟩ (Or.inl q269) hk77 ⟨rfl, rfl⟩ dX0_begin_136 (fun H locs hH hS => ?_)
      obtain ⟨M78, eM78⟩ : ∃ y : Mm, y = sI M75 108 a0 0 0 := ⟨_, rfl⟩
      have hw := hw M78 eM78
      rw [← eM78] at hH
      have hE79 : Ext M75 M78 := by rw [eM78]; exact Ext.sI
      have hk80 := hE79.k hk77 (by decide)
      have hE := hE.tr hE79
      refine lv_aload_n hx hb dX0_begin_139 rfl (lv_at hl 0 rfl) ?_
      refine lv_iconst (v := 0) hx hb dX0_begin_140 (by decide) ?_
      refine co_puti S hK hH hS 0 9 109 (by decide) ⟨by decide, rfl, rfl, rfl, rfl⟩ (Or.inl q270) hk80 ⟨rfl, rfl⟩ dX0_begin_141 (fun H locs hH hS => ?_)
      obtain ⟨M81, eM81⟩ : ∃ y : Mm, y = sI M78 109 a0 0 0 := ⟨_, rfl⟩
      have hw := hw M81 eM81
      rw [← eM81] at hH
      have hE82 : Ext M78 M81 := by rw [eM81]; exact Ext.sI
      have hk83 := hE82.k hk80 (by decide)
      have hE := hE.tr hE82
      refine lv_aload_n hx hb dX0_begin_144 rfl (lv_at hl 0 rfl) ?_
      refine lv_iconst (v := 0) hx hb dX0_begin_145 (by decide) ?_
      refine co_puti S hK hH hS 0 10 110 (by decide) ⟨by decide, rfl, rfl, rfl, rfl⟩ (Or.inl q271) hk83 ⟨rfl, rfl⟩ dX0_begin_146 (fun H locs hH hS => ?_)
      obtain ⟨M84, eM84⟩ : ∃ y : Mm, y = sI M81 110 a0 0 0 := ⟨_, rfl⟩
      have hw := hw M84 eM84
      rw [← eM84] at hH
      have hE85 : Ext M81 M84 := by rw [eM84]; exact Ext.sI
      have hk86 := hE85.k hk83 (by decide)
      have hE := hE.tr hE85
      refine lv_aload_n hx hb dX0_begin_149 rfl (lv_at hl 0 rfl) ?_
      refine lv_iconst (v := 1) hx hb dX0_begin_150 (by decide) ?_
      refine co_puti S hK hH hS 0 11 111 (by decide) ⟨by decide, rfl, rfl, rfl, rfl⟩ (Or.inl q272) hk86 ⟨rfl, rfl⟩ dX0_begin_151 (fun H locs hH hS => ?_)
      obtain ⟨M87, eM87⟩ : ∃ y : Mm, y = sI M84 111 a0 0 1 := ⟨_, rfl⟩
      have hw := hw M87 eM87
      rw [← eM87] at hH
      have hE88 : Ext M84 M87 := by rw [eM87]; exact Ext.sI
      have hk89 := hE88.k hk86 (by decide)
      have hE := hE.tr hE88
      refine lv_aload_n hx hb dX0_begin_154 rfl (lv_at hl 0 rfl) ?_
      refine lv_iconst (v := 0) hx hb dX0_begin_155 (by decide) ?_
      refine co_puti S hK hH hS 0 12 112 (by decide) ⟨by decide, rfl, rfl, rfl, rfl⟩ (Or.inl q273) hk89 ⟨rfl, rfl⟩ dX0_begin_156 (fun H locs hH hS => ?_)
      obtain ⟨M90, eM90⟩ : ∃ y : Mm, y = sI M87 112 a0 0 0 := ⟨_, rfl⟩
      have hw := hw M90 eM90
      rw [← eM90] at hH
      have hE91 : Ext M87 M90 := by rw [eM90]; exact Ext.sI
      have hk92 := hE91.k hk89 (by decide)
      have hE := hE.tr hE91
      refine lv_aload_n hx hb dX0_begin_159 rfl (lv_at hl 0 rfl) ?_
      refine lv_iconst (v := 0) hx hb dX0_begin_160 (by decide) ?_
      refine co_puti S hK hH hS 0 13 113 (by decide) ⟨by decide, rfl, rfl, rfl, rfl⟩ (Or.inl q274) hk92 ⟨rfl, rfl⟩ dX0_begin_161 (fun H locs hH hS => ?_)
      obtain ⟨M93, eM93⟩ : ∃ y : Mm, y = sI M90 113 a0 0 0 := ⟨_, rfl⟩
      have hw := hw M93 eM93
      rw [← eM93] at hH
      have hE94 : Ext M90 M93 := by rw [eM93]; exact Ext.sI
      have hk95 := hE94.k hk92 (by decide)
      have hE := hE.tr hE94
      refine lv_aload_n hx hb dX0_begin_164 rfl (lv_at hl 0 rfl) ?_
      refine lv_iconst (v := 0) hx hb dX0_begin_165 (by decide) ?_
      refine co_puti S hK hH hS 0 17 117 (by decide) ⟨by decide, rfl, rfl, rfl, rfl⟩ (Or.inl q278) hk95 ⟨rfl, rfl⟩ dX0_begin_166 (fun H locs hH hS => ?_)
      obtain ⟨M96, eM96⟩ : ∃ y : Mm, y = sI M93 117 a0 0 0 := ⟨_, rfl⟩
      have hw := hw M96 eM96
      rw [← eM96] at hH
      have hE97 : Ext M93 M96 := by rw [eM96]; exact Ext.sI
      have hk98 := hE97.k hk95 (by decide)
      have hE := hE.tr hE97
      refine lv_aload_n hx hb dX0_begin_169 rfl (lv_at hl 0 rfl) ?_
      refine lv_iconst (v := 0) hx hb dX0_begin_170 (by decide) ?_
      refine co_puti S hK hH hS 0 18 118 (by decide) ⟨by decide, rfl, rfl, rfl, rfl⟩ (Or.inl q279) hk98 ⟨rfl, rfl⟩ dX0_begin_171 (fun H locs hH hS => ?_)
      obtain ⟨M99, eM99⟩ : ∃ y : Mm, y = sI M96 118 a0 0 0 := ⟨_, rfl⟩
      have hw := hw M99 eM99
      rw [← eM99] at hH
      have hE100 : Ext M96 M99 := by rw [eM99]; exact Ext.sI
      have hk101 := hE100.k hk98 (by decide)
      have hE := hE.tr hE100
      refine lv_aload_n hx hb dX0_begin_174 rfl (lv_at hl 0 rfl) ?_
      refine lv_iconst (v := 0) hx hb dX0_begin_175 (by decide) ?_
      refine co_puti S hK hH hS 0 19 119 (by decide) ⟨by decide, rfl, rfl, rfl, rfl⟩ (Or.inl q280) hk101 ⟨rfl, rfl⟩ dX0_begin_176 (fun H locs hH hS => ?_)
      obtain ⟨M102, eM102⟩ : ∃ y : Mm, y = sI M99 119 a0 0 0 := ⟨_, rfl⟩
      have hw := hw M102 eM102
      rw [← eM102] at hH
      have hE103 : Ext M99 M102 := by rw [eM102]; exact Ext.sI
      have hk104 := hE103.k hk101 (by decide)
      have hE := hE.tr hE103
      refine lv_aload_n hx hb dX0_begin_179 rfl (lv_at hl 0 rfl) ?_
      refine lv_iconst (v := 0) hx hb dX0_begin_180 (by decide) ?_
      refine co_puti S hK hH hS 0 20 120 (by decide) ⟨by decide, rfl, rfl, rfl, rfl⟩ (Or.inl q281) hk104 ⟨rfl, rfl⟩ dX0_begin_181 (fun H locs hH hS => ?_)
      obtain ⟨M105, eM105⟩ : ∃ y : Mm, y = sI M102 120 a0 0 0 := ⟨_, rfl⟩
      have hw := hw M105 eM105
      rw [← eM105] at hH
      have hE106 : Ext M102 M105 := by rw [eM105]; exact Ext.sI
      have hk107 := hE106.k hk104 (by decide)
      have hE := hE.tr hE106
      refine lv_aload_n hx hb dX0_begin_184 rfl (lv_at hl 0 rfl) ?_
      refine lv_iconst (v := 0) hx hb dX0_begin_185 (by decide) ?_
      refine co_puti S hK hH hS 0 21 121 (by decide) ⟨by decide, rfl, rfl, rfl, rfl⟩ (Or.inl q282) hk107 ⟨rfl, rfl⟩ dX0_begin_186 (fun H locs hH hS => ?_)
      obtain ⟨M108, eM108⟩ : ∃ y : Mm, y = sI M105 121 a0 0 0 := ⟨_, rfl⟩
      have hw := hw M108 eM108
      rw [← eM108] at hH
      have hE109 : Ext M105 M108 := by rw [eM108]; exact Ext.sI
      have hk110 := hE109.k hk107 (by decide)
      have hE := hE.tr hE109
      refine lv_aload_n hx hb dX0_begin_189 rfl (lv_at hl 0 rfl) ?_
      refine lv_iconst (v := 1) hx hb dX0_begin_190 (by decide) ?_
      refine co_puti S hK hH hS 0 22 122 (by decide) ⟨by decide, rfl, rfl, rfl, rfl⟩ (Or.inl q283) hk110 ⟨rfl, rfl⟩ dX0_begin_191 (fun H locs hH hS => ?_)
      obtain ⟨M111, eM111⟩ : ∃ y : Mm, y = sI M108 122 a0 0 1 := ⟨_, rfl⟩
      have hw := hw M111 eM111
      rw [← eM111] at hH
      have hE112 : Ext M108 M111 := by rw [eM111]; exact Ext.sI
      have hk113 := hE112.k hk110 (by decide)
      have hE := hE.tr hE112
      refine lv_aload_n hx hb dX0_begin_194 rfl (lv_at hl 0 rfl) ?_
      refine lv_iconst (v := 0) hx hb dX0_begin_195 (by decide) ?_
      refine co_puti S hK hH hS 0 23 123 (by decide) ⟨by decide, rfl, rfl, rfl, rfl⟩ (Or.inl q284) hk113 ⟨rfl, rfl⟩ dX0_begin_196 (fun H locs hH hS => ?_)
      obtain ⟨M114, eM114⟩ : ∃ y : Mm, y = sI M111 123 a0 0 0 := ⟨_, rfl⟩
      have hw := hw M114 eM114
      rw [← eM114] at hH
      have hE115 : Ext M111 M114 := by rw [eM114]; exact Ext.sI
      have hk116 := hE115.k hk113 (by decide)
      have hE := hE.tr hE115
      refine lv_aload_n hx hb dX0_begin_199 rfl (lv_at hl 0 rfl) ?_
      refine lv_iconst (v := 0) hx hb dX0_begin_200 (by decide) ?_
      refine co_puti S hK hH hS 0 24 124 (by decide) ⟨by decide, rfl, rfl, rfl, rfl⟩ (Or.inl q285) hk116 ⟨rfl, rfl⟩ dX0_begin_201 (fun H locs hH hS => ?_)
      obtain ⟨M117, eM117⟩ : ∃ y : Mm, y = sI M114 124 a0 0 0 := ⟨_, rfl⟩
      have hw := hw M117 eM117
      rw [← eM117] at hH
      have hE118 : Ext M114 M117 := by rw [eM117]; exact Ext.sI
      have hk119 := hE118.k hk116 (by decide)
      have hE := hE.tr hE118
      refine lv_aload_n hx hb dX0_begin_204 rfl (lv_at hl 0 rfl) ?_
      refine lv_iconst (v := 0) hx hb dX0_begin_205 (by decide) ?_
      refine co_puti S hK hH hS 0 28 128 (by decide) ⟨by decide, rfl, rfl, rfl, rfl⟩ (Or.inl q289) hk119 ⟨rfl, rfl⟩ dX0_begin_206 (fun H locs hH hS => ?_)
      obtain ⟨M120, eM120⟩ : ∃ y : Mm, y = sI M117 128 a0 0 0 := ⟨_, rfl⟩
      have hw := hw M120 eM120
      rw [← eM120] at hH
      have hE121 : Ext M117 M120 := by rw [eM120]; exact Ext.sI
      have hk122 := hE121.k hk119 (by decide)
      have hE := hE.tr hE121
      refine lv_aload_n hx hb dX0_begin_209 rfl (lv_at hl 0 rfl) ?_
      refine lv_iconst (v := 1) hx hb dX0_begin_210 (by decide) ?_
      refine co_puti S hK hH hS 0 29 129 (by decide) ⟨by decide, rfl, rfl, rfl, rfl⟩ (Or.inl q290) hk122 ⟨rfl, rfl⟩ dX0_begin_211 (fun H locs hH hS => ?_)
      obtain ⟨M123, eM123⟩ : ∃ y : Mm, y = sI M120 129 a0 0 1 := ⟨_, rfl⟩
      have hw := hw M123 eM123
      rw [← eM123] at hH
      have hE124 : Ext M120 M123 := by rw [eM123]; exact Ext.sI
      have hk125 := hE124.k hk122 (by decide)
      have hE := hE.tr hE124
      refine lv_aload_n hx hb dX0_begin_214 rfl (lv_at hl 0 rfl) ?_
      refine lv_iconst (v := 0) hx hb dX0_begin_215 (by decide) ?_
      refine co_puti S hK hH hS 0 30 130 (by decide) ⟨by decide, rfl, rfl, rfl, rfl⟩ (Or.inl q291) hk125 ⟨rfl, rfl⟩ dX0_begin_216 (fun H locs hH hS => ?_)
      obtain ⟨M126, eM126⟩ : ∃ y : Mm, y = sI M123 130 a0 0 0 := ⟨_, rfl⟩
      have hw := hw M126 eM126
      rw [← eM126] at hH
      have hE127 : Ext M123 M126 := by rw [eM126]; exact Ext.sI
      have hk128 := hE127.k hk125 (by decide)
      have hE := hE.tr hE127
      exact co_vret S hr hlocks hH hE hS hw dX0_begin_219
    · have hw := hw.2 c59
      refine lv_aload_n hx hb dX0_begin_91 rfl (lv_at hl 0 rfl) ?_
      have hk129 := hw.1
      have hw := hw.2
      refine co_getr S hK hH 0 3 103 (by decide) ⟨by decide, rfl, rfl, rfl⟩ (Or.inl q264) hk_a0 (by rw [hk129]; decide) dX0_begin_92 ?_
      refine lv_iload_n hx hb dX0_begin_95 rfl (lv_at hl 1 rfl) ?_
      refine lv_iconst (v := 0) hx hb dX0_begin_96 (by decide) ?_
      have hin130 := hw.1
      have hw := hw.2
      refine co_iast S hK hH hS 4 24 ⟨by decide, rfl, rfl⟩ hk129 hin130 dX0_begin_97 (fun H locs hH hS => ?_)
      obtain ⟨M131, eM131⟩ : ∃ y : Mm, y = sI M 24 (mP M 103 a0 0) x1.toNatClampNeg 0 := ⟨_, rfl⟩
      have hw := hw M131 eM131
      rw [← eM131] at hH
      have hE132 : Ext M M131 := by rw [eM131]; exact Ext.sI
      have hk133 := hE132.k hk_a0 (by decide)
      have hE := hE.tr hE132
      refine lv_iinc (v := x1 + 1) (lv' := [(1, .int (x1 + 1)), (0, .ref a0)]) hx hb dX0_begin_98 hl (k := 1) rfl rfl (by decide) rfl (fun ls hl => ?_)
      refine lv_goto (tgt := 82) hx hb dX0_begin_101 (by decide) ?_
      exact hkb _ _ _ hw hE hk133 _ _ hH hS _ (lv_sub hl [1, 0] rfl)
def w0_begin (post : Mm → Prop) (M : Mm) (a0 : Nat) : Prop :=
  mK M (mP M 126 a0 0) = 6 ∧ (∀ M3 : Mm, M3 = sN M 6 → (w5_init (fun (M7 : Mm) => w5_copies (fun (M14 : Mm) => mK M14 (mP M14 114 a0 0) = 4 ∧ (∀ M20 : Mm, M20 = sI M14 401 (mP M14 114 a0 0) 0 0 → (mK M20 (mP M20 125 a0 0) = 4 ∧ (∀ M24 : Mm, M24 = sI M20 401 (mP M20 125 a0 0) 0 0 → (mK M24 (mP M24 114 a0 0) = 4 ∧ (∃ n, w0_begin_35 post (fun (M57 : Mm) (a0_56 : Nat) => ∃ n, w0_begin_82 post  n M57 a0_56 0) n M24 a0 (mP M24 114 a0 0))))))) M7 (mP M 126 a0 0) (mZ M)) M3 (mZ M)))
set_option maxHeartbeats 4000000 in
set_option maxRecDepth 100000 in
theorem m0_begin (l : Launch) (g : CG) (AD : Nat → Prop) (M : Mm) (a0 : Nat) (post : Mm → Prop) (hk_a0 : mK M a0 = 1) (hw : w0_begin post M a0) : Met l yX0_begin (ws_ yX0_begin cX0_begin 3 none) rm0_begin (CPc g AD M [.ref a0]) (CQv g AD M post) 19 404 AD := by
  refine Met.ofW (cc := cX0_begin) (maxL := 3) (ret := none) (by decide) rfl ?_
  intro p e s m args below meth c s₁ B hml hv
  obtain ⟨rfl, hK, hH, hA⟩ := hv
  have hx := B.exec
  have hb := B.bytes
  have hr : meth.sig.returnType = none := B.returns
  have hts := atoms_spec (ws := ws_ yX0_begin cX0_begin 3 none) B.pre
  have hts : ∀ w ∈ lw_all, w.before _ s = true := fun w h => hts w (List.mem_cons_of_mem _ h)
  have hown : s.vm.findClass RX0 = some m.cls := findClass_of_methodNamed B.named
  have hlocks : meth.locks = false := B.notSynchronized
  have S : CallFix p m c cX0_begin 3 s _ lw_all RX0 := ⟨hx, hb, hml, hown, hts⟩
  have hS : va_S AD s.heap s.heap [] := va_S.rf
  have hE : Ext M M := Ext.rf
  have hl := lv_entry ([.ref a0]) (n := 3) (Nat.le_of_ble_eq_true rfl)
  rw [lg_entry_eq]
  generalize (lg_sl ([.ref a0]) ++ List.replicate (3 - (lg_sl ([.ref a0])).length) Slot.unset).toArray = ls at hl ⊢
  have hl : lv_has ls 3 [(0, .ref a0)] := hl
  unfold w0_begin at hw
  refine lv_aload_n hx hb dX0_begin_0 rfl (lv_at hl 0 rfl) ?_
  have hk1 := hw.1
  have hw := hw.2
  refine co_getr S hK hH 0 26 126 (by decide) ⟨by decide, rfl, rfl, rfl⟩ (Or.inl q287) hk_a0 (by rw [hk1]; decide) dX0_begin_1 ?_
  have hE2 := Ext.new hH 6
  refine co_new S hK hH hS hA 5 6 (by decide) rfl q204 q133 q59 (by decide) (Nat.le_of_ble_eq_true rfl) (Nat.le_of_ble_eq_true rfl) dX0_begin_4 (fun H hH hS => ?_)
  obtain ⟨M3, eM3⟩ : ∃ y : Mm, y = sN M 6 := ⟨_, rfl⟩
  have hw := hw M3 eM3
  rw [← eM3] at hH hE2
  have hk4 := hE2.k hk_a0 (by decide)
  have hk5 := hE2.k hk1 (by decide)
  have hE := hE.tr hE2
  have hk6 : mK M3 (mZ M) = 6 := by rw [eM3]; exact mK_new M 6
  refine lv_dup hx hb dX0_begin_7 rfl ?_
  refine co_callv (va_runI (As := []) (rest := [.ref (mZ M), .ref (mP M 126 a0 0)]) S (m5_init l g AD M3 (mZ M) _ hk6 hw) (cwI 0 hts (lw_meth q136) rfl rfl rfl (hts _ q59) (hts _ q205) (hts _ q135) rfl (by decide +kernel) ⟨Nat.le_of_ble_eq_true rfl, Nat.le_of_ble_eq_true rfl⟩) ⟨co_blind, co_pre hK hH hA hS⟩ rfl rfl hl.1 rfl (lv_room (Nat.le_of_ble_eq_true rfl)) dX0_begin_8 ⟨(Nat.le_of_ble_eq_true rfl), (Nat.le_of_ble_eq_true rfl)⟩) hS (fun M7 H locs hw hH hE9 hS => ?_)
  have hk11 := hE9.k hk4 (by decide)
  have hk12 := hE9.k hk6 (by decide)
  have hk13 := hE9.k hk5 (by decide)
  have hE := hE.tr hE9
  refine co_callv (va_runV (As := [.ref (mZ M)]) (rest := []) S (m5_copies l g AD M7 (mP M 126 a0 0) (mZ M) _ hk13 hk12 hw) (cwV 1 hts (lw_V q246 q247 q248 q59 q249) rfl rfl rfl (by decide +kernel) ⟨Nat.le_of_ble_eq_true rfl, Nat.le_of_ble_eq_true rfl⟩) ⟨co_blind, co_recv hK hH (c := 5) (by decide) hk13, co_pre hK hH hA hS⟩ rfl rfl hl.1 rfl (lv_room (Nat.le_of_ble_eq_true rfl)) dX0_begin_11 ⟨(Nat.le_of_ble_eq_true rfl), (Nat.le_of_ble_eq_true rfl)⟩) hS (fun M14 H locs hw hH hE16 hS => ?_)
  have hk18 := hE16.k hk11 (by decide)
  have hE := hE.tr hE16
  refine lv_aload_n hx hb dX0_begin_14 rfl (lv_at hl 0 rfl) ?_
  have hk19 := hw.1
  have hw := hw.2
  refine co_getr S hK hH 0 14 114 (by decide) ⟨by decide, rfl, rfl, rfl⟩ (Or.inl q275) hk18 (by rw [hk19]; decide) dX0_begin_15 ?_
  refine lv_iconst (v := 0) hx hb dX0_begin_18 (by decide) ?_
  refine co_puti S hK hH hS 3 1 401 (by decide) ⟨by decide, rfl, rfl, rfl, rfl⟩ (Or.inr ⟨_, q188⟩) hk19 ⟨rfl, rfl⟩ dX0_begin_19 (fun H locs hH hS => ?_)
  obtain ⟨M20, eM20⟩ : ∃ y : Mm, y = sI M14 401 (mP M14 114 a0 0) 0 0 := ⟨_, rfl⟩
  have hw := hw M20 eM20
  rw [← eM20] at hH
  have hE21 : Ext M14 M20 := by rw [eM20]; exact Ext.sI
  have hk22 := hE21.k hk18 (by decide)
  have hE := hE.tr hE21
  refine lv_aload_n hx hb dX0_begin_22 rfl (lv_at hl 0 rfl) ?_
  have hk23 := hw.1
  have hw := hw.2
  refine co_getr S hK hH 0 25 125 (by decide) ⟨by decide, rfl, rfl, rfl⟩ (Or.inl q286) hk22 (by rw [hk23]; decide) dX0_begin_23 ?_
  refine lv_iconst (v := 0) hx hb dX0_begin_26 (by decide) ?_
  refine co_puti S hK hH hS 3 1 401 (by decide) ⟨by decide, rfl, rfl, rfl, rfl⟩ (Or.inr ⟨_, q188⟩) hk23 ⟨rfl, rfl⟩ dX0_begin_27 (fun H locs hH hS => ?_)
  obtain ⟨M24, eM24⟩ : ∃ y : Mm, y = sI M20 401 (mP M20 125 a0 0) 0 0 := ⟨_, rfl⟩
  have hw := hw M24 eM24
  rw [← eM24] at hH
  have hE25 : Ext M20 M24 := by rw [eM24]; exact Ext.sI
  have hk26 := hE25.k hk22 (by decide)
  have hE := hE.tr hE25
  refine lv_aload_n hx hb dX0_begin_30 rfl (lv_at hl 0 rfl) ?_
  have hk27 := hw.1
  have hw := hw.2
  refine co_getr S hK hH 0 14 114 (by decide) ⟨by decide, rfl, rfl, rfl⟩ (Or.inl q275) hk26 (by rw [hk27]; decide) dX0_begin_31 ?_
  refine lv_astore_n (lv' := [(1, .ref (mP M24 114 a0 0)), (0, .ref a0)]) hx hb dX0_begin_34 rfl hl (by decide) rfl (fun ls hl => ?_)
  obtain ⟨n, hw⟩ := hw
  refine r0_begin_35 S hr hlocks hK hA (fun M57 a0_56 hw hE hk_a0_56 H locs hH hS ls hl => ?_) n _ _ _ hw hE hk26 hk27 _ _ hH hS _ (lv_sub hl [1, 0] rfl)
  refine lv_goto (tgt := 80) hx hb dX0_begin_69 (by decide) ?_
  refine lv_iconst (v := 0) hx hb dX0_begin_80 (by decide) ?_
  refine lv_istore_n (lv' := [(1, .int 0), (0, .ref a0_56)]) hx hb dX0_begin_81 rfl hl (by decide) rfl (fun ls hl => ?_)
  obtain ⟨n, hw⟩ := hw
  refine r0_begin_82 S hr hlocks hK hA  n _ _ _ hw hE hk_a0_56 _ _ hH hS _ (lv_sub hl [1, 0] rfl)
