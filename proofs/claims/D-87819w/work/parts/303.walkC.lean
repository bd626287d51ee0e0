/-! FarTypewriter$Shelf.newest()LFarTypewriter$State; -/
abbrev rm3_newest : Room := { frames := 0, cells := 0, slots := 0, locals := 0 }
def w3_newest (post : Nat → Mm → Prop) (M : Mm) (a0 : Nat) : Prop :=
  mK M (mP M 400 a0 0) = 25 ∧ (vp_in ((mI M 401 a0 0) - 1) 32 ∧ (mK M (mP M 25 (mP M 400 a0 0) ((mI M 401 a0 0) - 1).toNatClampNeg) = 5 ∧ (post (mP M 25 (mP M 400 a0 0) ((mI M 401 a0 0) - 1).toNatClampNeg) M)))
set_option maxHeartbeats 4000000 in
set_option maxRecDepth 100000 in
theorem m3_newest (l : Launch) (g : CG) (AD : Nat → Prop) (M : Mm) (a0 : Nat) (post : Nat → Mm → Prop) (hk_a0 : mK M a0 = 4) (hw : w3_newest post M a0) : Met l yX3_newest (ws_ yX3_newest cX3_newest 1 (some (.object "FarTypewriter$State"))) rm3_newest (CPc g AD M [.ref a0]) (CQr g AD M (fun k => k = 5) post) 0 0 AD := by
  refine Met.ofW (cc := cX3_newest) (maxL := 1) (ret := (some (.object "FarTypewriter$State"))) (by decide) rfl ?_
  intro p e s m args below meth c s₁ B hml hv
  obtain ⟨rfl, hK, hH, hA⟩ := hv
  have hx := B.exec
  have hb := B.bytes
  have hr : meth.sig.returnType = (some (.object "FarTypewriter$State")) := B.returns
  have hts := atoms_spec (ws := ws_ yX3_newest cX3_newest 1 (some (.object "FarTypewriter$State"))) B.pre
  have hts : ∀ w ∈ lw_all, w.before _ s = true := fun w h => hts w (List.mem_cons_of_mem _ h)
  have hown : s.vm.findClass RX3 = some m.cls := findClass_of_methodNamed B.named
  have hlocks : meth.locks = false := B.notSynchronized
  have S : CallFix p m c cX3_newest 1 s _ lw_all RX3 := ⟨hx, hb, hml, hown, hts⟩
  have hS : va_S AD s.heap s.heap [] := va_S.rf
  have hE : Ext M M := Ext.rf
  have hl := lv_entry ([.ref a0]) (n := 1) (Nat.le_of_ble_eq_true rfl)
  rw [lg_entry_eq]
  generalize (lg_sl ([.ref a0]) ++ List.replicate (1 - (lg_sl ([.ref a0])).length) Slot.unset).toArray = ls at hl ⊢
  have hl : lv_has ls 1 [(0, .ref a0)] := hl
  unfold w3_newest at hw
  refine lv_aload_n hx hb dX3_newest_0 rfl (lv_at hl 0 rfl) ?_
  have hk1 := hw.1
  have hw := hw.2
  refine co_getr S hK hH 3 0 400 (by decide) ⟨by decide, rfl, rfl, rfl⟩ (Or.inl q185) hk_a0 (by rw [hk1]; decide) dX3_newest_1 ?_
  refine lv_aload_n hx hb dX3_newest_4 rfl (lv_at hl 0 rfl) ?_
  refine co_geti S hK hH 3 1 401 (by decide) ⟨by decide, rfl, rfl, rfl⟩ (Or.inl q187) hk_a0 dX3_newest_5 ?_
  refine lv_iconst (v := 1) hx hb dX3_newest_8 (by decide) ?_
  refine lv_isub hx hb dX3_newest_9 ?_
  have hin2 := hw.1
  have hw := hw.2
  have hk3 := hw.1
  have hw := hw.2
  refine co_aald S hK hH 5 25 ⟨by decide, rfl, rfl⟩ hk1 hin2 (by rw [hk3]; decide) dX3_newest_10 ?_
  exact co_aret S hr hlocks hH hE hS hk3 hw dX3_newest_11
/-! FarTypewriter$Shelf.next()LFarTypewriter$State; -/
abbrev rm3_next : Room := { frames := 1, cells := 0, slots := 0, locals := 20 }
def w3_next (post : Nat → Mm → Prop) (M : Mm) (a0 : Nat) : Prop :=
  ∀ M1 : Mm, M1 = sI M 401 a0 0 ((mI M 401 a0 0) + 1) → (w3_newest (fun (r5 : Nat) (M4 : Mm) => post r5 M4) M1 a0)
set_option maxHeartbeats 4000000 in
set_option maxRecDepth 100000 in
theorem m3_next (l : Launch) (g : CG) (AD : Nat → Prop) (M : Mm) (a0 : Nat) (post : Nat → Mm → Prop) (hk_a0 : mK M a0 = 4) (hw : w3_next post M a0) : Met l yX3_next (ws_ yX3_next cX3_next 1 (some (.object "FarTypewriter$State"))) rm3_next (CPc g AD M [.ref a0]) (CQr g AD M (fun k => k = 5) post) 0 0 AD := by
  refine Met.ofW (cc := cX3_next) (maxL := 1) (ret := (some (.object "FarTypewriter$State"))) (by decide) rfl ?_
  intro p e s m args below meth c s₁ B hml hv
  obtain ⟨rfl, hK, hH, hA⟩ := hv
  have hx := B.exec
  have hb := B.bytes
  have hr : meth.sig.returnType = (some (.object "FarTypewriter$State")) := B.returns
  have hts := atoms_spec (ws := ws_ yX3_next cX3_next 1 (some (.object "FarTypewriter$State"))) B.pre
  have hts : ∀ w ∈ lw_all, w.before _ s = true := fun w h => hts w (List.mem_cons_of_mem _ h)
  have hown : s.vm.findClass RX3 = some m.cls := findClass_of_methodNamed B.named
  have hlocks : meth.locks = false := B.notSynchronized
  have S : CallFix p m c cX3_next 1 s _ lw_all RX3 := ⟨hx, hb, hml, hown, hts⟩
  have hS : va_S AD s.heap s.heap [] := va_S.rf
  have hE : Ext M M := Ext.rf
  have hl := lv_entry ([.ref a0]) (n := 1) (Nat.le_of_ble_eq_true rfl)
  rw [lg_entry_eq]
  generalize (lg_sl ([.ref a0]) ++ List.replicate (1 - (lg_sl ([.ref a0])).length) Slot.unset).toArray = ls at hl ⊢
  have hl : lv_has ls 1 [(0, .ref a0)] := hl
  unfold w3_next at hw
  refine lv_aload_n hx hb dX3_next_0 rfl (lv_at hl 0 rfl) ?_
  refine lv_dup hx hb dX3_next_1 rfl ?_
  refine co_geti S hK hH 3 1 401 (by decide) ⟨by decide, rfl, rfl, rfl⟩ (Or.inl q187) hk_a0 dX3_next_2 ?_
  refine lv_iconst (v := 1) hx hb dX3_next_5 (by decide) ?_
  refine lv_iadd hx hb dX3_next_6 ?_
  refine co_puti S hK hH hS 3 1 401 (by decide) ⟨by decide, rfl, rfl, rfl, rfl⟩ (Or.inl q187) hk_a0 ⟨rfl, rfl⟩ dX3_next_7 (fun H locs hH hS => ?_)
  obtain ⟨M1, eM1⟩ : ∃ y : Mm, y = sI M 401 a0 0 ((mI M 401 a0 0) + 1) := ⟨_, rfl⟩
  have hw := hw M1 eM1
  rw [← eM1] at hH
  have hE2 : Ext M M1 := by rw [eM1]; exact Ext.sI
  have hk3 := hE2.k hk_a0 (by decide)
  have hE := hE.tr hE2
  refine lv_aload_n hx hb dX3_next_10 rfl (lv_at hl 0 rfl) ?_
  refine co_callr (va_runV (As := []) (rest := []) S (m3_newest l g AD M1 a0 _ hk3 hw) (cwV 0 hts (lw_V q257 q258 q259 q57 q260) rfl rfl rfl (by decide +kernel) ⟨Nat.le_of_ble_eq_true rfl, Nat.le_of_ble_eq_true rfl⟩) ⟨co_blind, co_recv hK hH (c := 3) (by decide) hk3, co_pre hK hH hA hS⟩ rfl rfl hl.1 rfl (lv_room (Nat.le_of_ble_eq_true rfl)) dX3_next_11 ⟨Nat.le_refl _, Nat.le_refl _⟩) hS (fun r5 M4 H locs hw hH hE6 hk7 hS => ?_)
  have hk8 := hE6.k hk3 (by decide)
  have hE := hE.tr hE6
  have hk7 : mK M4 r5 = 5 := hk7
  exact co_aret S hr hlocks hH hE hS hk7 hw dX3_next_14
/-! FarTypewriter$Screen.copies(LFarTypewriter$Screen;)V -/
abbrev rm5_copies : Room := { frames := 1, cells := 0, slots := 0, locals := 200 }
def b5_copies_2 (post : Mm → Prop)  (kb : Mm → Nat → Nat → Int32 → Prop) (M : Mm) (a0 : Nat) (a1 : Nat) (x2 : Int32) : Prop :=
  (8 ≤ x2 → ∀ M2 : Mm, M2 = sI M 602 a0 0 (mI M 602 a1 0) → (∀ M6 : Mm, M6 = sI M2 603 a0 0 (mI M2 603 a1 0) → (post M6))) ∧ (¬ 8 ≤ x2 → mK M (mP M 600 a1 0) = 21 ∧ (vp_in x2 8 ∧ (mK M (mP M 21 (mP M 600 a1 0) x2.toNatClampNeg) = 20 ∧ (mK M (mP M 600 a0 0) = 21 ∧ (vp_in x2 8 ∧ (mK M (mP M 21 (mP M 600 a0 0) x2.toNatClampNeg) = 20 ∧ ((∀ i17 : Nat, i17 < (24 : Int32).toNatClampNeg → fits .byte (.int (mI M 20 (mP M 21 (mP M 600 a1 0) x2.toNatClampNeg) ((0 : Int32).toNatClampNeg + i17))) = true) ∧ (∀ M18 : Mm, M18 = cI M 20 (mP M 21 (mP M 600 a1 0) x2.toNatClampNeg) (mP M 21 (mP M 600 a0 0) x2.toNatClampNeg) (0 : Int32).toNatClampNeg (0 : Int32).toNatClampNeg (24 : Int32).toNatClampNeg → (mK M18 (mP M18 601 a1 0) = 21 ∧ (vp_in x2 8 ∧ (mK M18 (mP M18 21 (mP M18 601 a1 0) x2.toNatClampNeg) = 20 ∧ (mK M18 (mP M18 601 a0 0) = 21 ∧ (vp_in x2 8 ∧ (mK M18 (mP M18 21 (mP M18 601 a0 0) x2.toNatClampNeg) = 20 ∧ ((∀ i29 : Nat, i29 < (24 : Int32).toNatClampNeg → fits .byte (.int (mI M18 20 (mP M18 21 (mP M18 601 a1 0) x2.toNatClampNeg) ((0 : Int32).toNatClampNeg + i29))) = true) ∧ (∀ M30 : Mm, M30 = cI M18 20 (mP M18 21 (mP M18 601 a1 0) x2.toNatClampNeg) (mP M18 21 (mP M18 601 a0 0) x2.toNatClampNeg) (0 : Int32).toNatClampNeg (0 : Int32).toNatClampNeg (24 : Int32).toNatClampNeg → (kb M30 a0 a1 (x2 + 1))))))))))))))))))
def w5_copies_2 (post : Mm → Prop)  : Nat → Mm → Nat → Nat → Int32 → Prop
  | 0 => fun _ _ _ _ => False
  | n + 1 => b5_copies_2 post  (w5_copies_2 post  n)
set_option maxHeartbeats 4000000 in
set_option maxRecDepth 100000 in
theorem r5_copies_2 {p : Program} {l : Launch} {e : Env} {s : State} {m : MethodId} {args : Array Value} {below : List Frame} {meth : Method} {c : Code} {g : CG} {AD : Nat → Prop} {M0 : Mm} (S : CallFix p m c cX5_copies 3 s args lw_all RX5) (hr : meth.sig.returnType = none) (hlocks : meth.locks = false) (hK : KC g s) (hA : ∀ q, s.heap.size ≤ q → AD q) {post : Mm → Prop}  : ∀ n : Nat, ∀ (M : Mm) (a0 : Nat) (a1 : Nat) (x2 : Int32), w5_copies_2 post  n M a0 a1 x2 → Ext M0 M → mK M a0 = 6 → mK M a1 = 6 → ∀ (H : Heap) (locs : List Loc), HC g AD M H → va_S AD s.heap H locs → ∀ (ls : Array Slot), lv_has ls 3 [(0, .ref a0), (1, .ref a1), (2, .int x2)] → W p l e rm5_copies s m args below meth c H locs 0 0 (MQ below (CQv g AD M0 post) args s 0 0 AD) (F0 m 2 ls []) := by
  have hx := S.1
  have hb := S.2.1
  have hown := S.2.2.2.1
  have hts := S.2.2.2.2
  intro n
  induction n with
  | zero =>
    intro M a0 a1 x2 hw
    exact hw.elim
  | succ n hkb =>
    intro M a0 a1 x2 hw hE hk_a0 hk_a1 H locs hH hS ls hl
    unfold w5_copies_2 b5_copies_2 at hw
    refine lv_iload_n hx hb dX5_copies_2 rfl (lv_at hl 2 rfl) ?_
    refine lv_bipush (v := 8) hx hb dX5_copies_3 (by decide) ?_
    refine lv_icmp_ge (tgt := 52) hx hb dX5_copies_5 (by decide) (fun c1 => ?_) (fun c1 => ?_)
    · have hw := hw.1 c1
      refine lv_aload_n hx hb dX5_copies_52 rfl (lv_at hl 0 rfl) ?_
      refine lv_aload_n hx hb dX5_copies_53 rfl (lv_at hl 1 rfl) ?_
      refine co_geti S hK hH 5 2 602 (by decide) ⟨by decide, rfl, rfl, rfl⟩ (Or.inl q154) hk_a1 dX5_copies_54 ?_
      refine co_puti S hK hH hS 5 2 602 (by decide) ⟨by decide, rfl, rfl, rfl, rfl⟩ (Or.inl q154) hk_a0 ⟨rfl, rfl⟩ dX5_copies_57 (fun H locs hH hS => ?_)
      obtain ⟨M2, eM2⟩ : ∃ y : Mm, y = sI M 602 a0 0 (mI M 602 a1 0) := ⟨_, rfl⟩
      have hw := hw M2 eM2
      rw [← eM2] at hH
      have hE3 : Ext M M2 := by rw [eM2]; exact Ext.sI
      have hk4 := hE3.k hk_a0 (by decide)
      have hk5 := hE3.k hk_a1 (by decide)
      have hE := hE.tr hE3
      refine lv_aload_n hx hb dX5_copies_60 rfl (lv_at hl 0 rfl) ?_
      refine lv_aload_n hx hb dX5_copies_61 rfl (lv_at hl 1 rfl) ?_
      refine co_geti S hK hH 5 3 603 (by decide) ⟨by decide, rfl, rfl, rfl⟩ (Or.inl q159) hk5 dX5_copies_62 ?_
      refine co_puti S hK hH hS 5 3 603 (by decide) ⟨by decide, rfl, rfl, rfl, rfl⟩ (Or.inl q159) hk4 ⟨rfl, rfl⟩ dX5_copies_65 (fun H locs hH hS => ?_)
      obtain ⟨M6, eM6⟩ : ∃ y : Mm, y = sI M2 603 a0 0 (mI M2 603 a1 0) := ⟨_, rfl⟩
      have hw := hw M6 eM6
      rw [← eM6] at hH
      have hE7 : Ext M2 M6 := by rw [eM6]; exact Ext.sI
      have hk8 := hE7.k hk4 (by decide)
      have hk9 := hE7.k hk5 (by decide)
      have hE := hE.tr hE7
      exact co_vret S hr hlocks hH hE hS hw dX5_copies_68
    · have hw := hw.2 c1
      refine lv_aload_n hx hb dX5_copies_8 rfl (lv_at hl 1 rfl) ?_
      have hk10 := hw.1
      have hw := hw.2
      refine co_getr S hK hH 5 0 600 (by decide) ⟨by decide, rfl, rfl, rfl⟩ (Or.inl q148) hk_a1 (by rw [hk10]; decide) dX5_copies_9 ?_
      refine lv_iload_n hx hb dX5_copies_12 rfl (lv_at hl 2 rfl) ?_
      have hin11 := hw.1
      have hw := hw.2
      have hk12 := hw.1
      have hw := hw.2
      refine co_aald S hK hH 1 21 ⟨by decide, rfl, rfl⟩ hk10 hin11 (by rw [hk12]; decide) dX5_copies_13 ?_
      refine lv_iconst (v := 0) hx hb dX5_copies_14 (by decide) ?_
      refine lv_aload_n hx hb dX5_copies_15 rfl (lv_at hl 0 rfl) ?_
      have hk13 := hw.1
      have hw := hw.2
      refine co_getr S hK hH 5 0 600 (by decide) ⟨by decide, rfl, rfl, rfl⟩ (Or.inl q148) hk_a0 (by rw [hk13]; decide) dX5_copies_16 ?_
      refine lv_iload_n hx hb dX5_copies_19 rfl (lv_at hl 2 rfl) ?_
      have hin14 := hw.1
      have hw := hw.2
      have hk15 := hw.1
      have hw := hw.2
      refine co_aald S hK hH 1 21 ⟨by decide, rfl, rfl⟩ hk13 hin14 (by rw [hk15]; decide) dX5_copies_20 ?_
      refine lv_iconst (v := 0) hx hb dX5_copies_21 (by decide) ?_
      refine lv_bipush (v := 24) hx hb dX5_copies_22 (by decide) ?_
      have hg16 := hw.1
      have hw := hw.2
      refine co_copyb S hK hH hS hl.1 0 20 ⟨by decide, rfl, rfl⟩ hk12 hk15 q250 q252 q251 q63 (by decide) (by decide) (by decide) (by decide) (by decide) hg16 (Nat.le_of_ble_eq_true rfl) (by decide) dX5_copies_24 (fun H locs hH hS => ?_)
      obtain ⟨M18, eM18⟩ : ∃ y : Mm, y = cI M 20 (mP M 21 (mP M 600 a1 0) x2.toNatClampNeg) (mP M 21 (mP M 600 a0 0) x2.toNatClampNeg) (0 : Int32).toNatClampNeg (0 : Int32).toNatClampNeg (24 : Int32).toNatClampNeg := ⟨_, rfl⟩
      have hw := hw M18 eM18
      rw [← eM18] at hH
      have hE19 : Ext M M18 := by rw [eM18]; exact Ext.cI
      have hk20 := hE19.k hk_a0 (by decide)
      have hk21 := hE19.k hk_a1 (by decide)
      have hE := hE.tr hE19
      refine lv_aload_n hx hb dX5_copies_27 rfl (lv_at hl 1 rfl) ?_
      have hk22 := hw.1
      have hw := hw.2
      refine co_getr S hK hH 5 1 601 (by decide) ⟨by decide, rfl, rfl, rfl⟩ (Or.inl q151) hk21 (by rw [hk22]; decide) dX5_copies_28 ?_
      refine lv_iload_n hx hb dX5_copies_31 rfl (lv_at hl 2 rfl) ?_
      have hin23 := hw.1
      have hw := hw.2
      have hk24 := hw.1
      have hw := hw.2
      refine co_aald S hK hH 1 21 ⟨by decide, rfl, rfl⟩ hk22 hin23 (by rw [hk24]; decide) dX5_copies_32 ?_
      refine lv_iconst (v := 0) hx hb dX5_copies_33 (by decide) ?_
      refine lv_aload_n hx hb dX5_copies_34 rfl (lv_at hl 0 rfl) ?_
      have hk25 := hw.1
      have hw := hw.2
      refine co_getr S hK hH 5 1 601 (by decide) ⟨by decide, rfl, rfl, rfl⟩ (Or.inl q151) hk20 (by rw [hk25]; decide) dX5_copies_35 ?_
      refine lv_iload_n hx hb dX5_copies_38 rfl (lv_at hl 2 rfl) ?_
      have hin26 := hw.1
      have hw := hw.2
      have hk27 := hw.1
      have hw := hw.2
      refine co_aald S hK hH 1 21 ⟨by decide, rfl, rfl⟩ hk25 hin26 (by rw [hk27]; decide) dX5_copies_39 ?_
      refine lv_iconst (v := 0) hx hb dX5_copies_40 (by decide) ?_
      refine lv_bipush (v := 24) hx hb dX5_copies_41 (by decide) ?_
      have hg28 := hw.1
      have hw := hw.2
      refine co_copyb S hK hH hS hl.1 0 20 ⟨by decide, rfl, rfl⟩ hk24 hk27 q250 q252 q251 q63 (by decide) (by decide) (by decide) (by decide) (by decide) hg28 (Nat.le_of_ble_eq_true rfl) (by decide) dX5_copies_43 (fun H locs hH hS => ?_)
      obtain ⟨M30, eM30⟩ : ∃ y : Mm, y = cI M18 20 (mP M18 21 (mP M18 601 a1 0) x2.toNatClampNeg) (mP M18 21 (mP M18 601 a0 0) x2.toNatClampNeg) (0 : Int32).toNatClampNeg (0 : Int32).toNatClampNeg (24 : Int32).toNatClampNeg := ⟨_, rfl⟩
      have hw := hw M30 eM30
      rw [← eM30] at hH
      have hE31 : Ext M18 M30 := by rw [eM30]; exact Ext.cI
      have hk32 := hE31.k hk20 (by decide)
      have hk33 := hE31.k hk21 (by decide)
      have hE := hE.tr hE31
      refine lv_iinc (v := x2 + 1) (lv' := [(2, .int (x2 + 1)), (0, .ref a0), (1, .ref a1)]) hx hb dX5_copies_46 hl (k := 2) rfl rfl (by decide) rfl (fun ls hl => ?_)
      refine lv_goto (tgt := 2) hx hb dX5_copies_49 (by decide) ?_
      exact hkb _ _ _ _ hw hE hk32 hk33 _ _ hH hS _ (lv_sub hl [1, 2, 0] rfl)
def w5_copies (post : Mm → Prop) (M : Mm) (a0 : Nat) (a1 : Nat) : Prop :=
  ∃ n, w5_copies_2 post  n M a0 a1 0
set_option maxHeartbeats 4000000 in
set_option maxRecDepth 100000 in
theorem m5_copies (l : Launch) (g : CG) (AD : Nat → Prop) (M : Mm) (a0 : Nat) (a1 : Nat) (post : Mm → Prop) (hk_a0 : mK M a0 = 6) (hk_a1 : mK M a1 = 6) (hw : w5_copies post M a0 a1) : Met l yX5_copies (ws_ yX5_copies cX5_copies 3 none) rm5_copies (CPc g AD M [.ref a0, .ref a1]) (CQv g AD M post) 0 0 AD := by
  refine Met.ofW (cc := cX5_copies) (maxL := 3) (ret := none) (by decide) rfl ?_
  intro p e s m args below meth c s₁ B hml hv
  obtain ⟨rfl, hK, hH, hA⟩ := hv
  have hx := B.exec
  have hb := B.bytes
  have hr : meth.sig.returnType = none := B.returns
  have hts := atoms_spec (ws := ws_ yX5_copies cX5_copies 3 none) B.pre
  have hts : ∀ w ∈ lw_all, w.before _ s = true := fun w h => hts w (List.mem_cons_of_mem _ h)
  have hown : s.vm.findClass RX5 = some m.cls := findClass_of_methodNamed B.named
  have hlocks : meth.locks = false := B.notSynchronized
  have S : CallFix p m c cX5_copies 3 s _ lw_all RX5 := ⟨hx, hb, hml, hown, hts⟩
  have hS : va_S AD s.heap s.heap [] := va_S.rf
  have hE : Ext M M := Ext.rf
  have hl := lv_entry ([.ref a0, .ref a1]) (n := 3) (Nat.le_of_ble_eq_true rfl)
  rw [lg_entry_eq]
  generalize (lg_sl ([.ref a0, .ref a1]) ++ List.replicate (3 - (lg_sl ([.ref a0, .ref a1])).length) Slot.unset).toArray = ls at hl ⊢
  have hl : lv_has ls 3 [(0, .ref a0), (1, .ref a1)] := hl
  unfold w5_copies at hw
  refine lv_iconst (v := 0) hx hb dX5_copies_0 (by decide) ?_
  refine lv_istore_n (lv' := [(2, .int 0), (0, .ref a0), (1, .ref a1)]) hx hb dX5_copies_1 rfl hl (by decide) rfl (fun ls hl => ?_)
  obtain ⟨n, hw⟩ := hw
  refine r5_copies_2 S hr hlocks hK hA  n _ _ _ _ hw hE hk_a0 hk_a1 _ _ hH hS _ (lv_sub hl [1, 2, 0] rfl)
/-! FarTypewriter$Screen.isLike(LFarTypewriter$Screen;II)Z -/
abbrev rm5_isLike : Room := { frames := 0, cells := 0, slots := 0, locals := 0 }
def w5_isLike (post : Int32 → Mm → Prop) (M : Mm) (a0 : Nat) (a1 : Nat) (x2 : Int32) (x3 : Int32) : Prop :=
  mK M (mP M 600 a0 0) = 21 ∧ (vp_in x2 8 ∧ (mK M (mP M 21 (mP M 600 a0 0) x2.toNatClampNeg) = 20 ∧ (vp_in x3 24 ∧ (mK M (mP M 600 a1 0) = 21 ∧ (vp_in x2 8 ∧ (mK M (mP M 21 (mP M 600 a1 0) x2.toNatClampNeg) = 20 ∧ (vp_in x3 24 ∧ (((mI M 20 (mP M 21 (mP M 600 a0 0) x2.toNatClampNeg) x3.toNatClampNeg) = (mI M 20 (mP M 21 (mP M 600 a1 0) x2.toNatClampNeg) x3.toNatClampNeg) → mK M (mP M 601 a0 0) = 21 ∧ (vp_in x2 8 ∧ (mK M (mP M 21 (mP M 601 a0 0) x2.toNatClampNeg) = 20 ∧ (vp_in x3 24 ∧ (mK M (mP M 601 a1 0) = 21 ∧ (vp_in x2 8 ∧ (mK M (mP M 21 (mP M 601 a1 0) x2.toNatClampNeg) = 20 ∧ (vp_in x3 24 ∧ (((mI M 20 (mP M 21 (mP M 601 a0 0) x2.toNatClampNeg) x3.toNatClampNeg) = (mI M 20 (mP M 21 (mP M 601 a1 0) x2.toNatClampNeg) x3.toNatClampNeg) → post 1 M) ∧ (¬ (mI M 20 (mP M 21 (mP M 601 a0 0) x2.toNatClampNeg) x3.toNatClampNeg) = (mI M 20 (mP M 21 (mP M 601 a1 0) x2.toNatClampNeg) x3.toNatClampNeg) → post 0 M)))))))))) ∧ (¬ (mI M 20 (mP M 21 (mP M 600 a0 0) x2.toNatClampNeg) x3.toNatClampNeg) = (mI M 20 (mP M 21 (mP M 600 a1 0) x2.toNatClampNeg) x3.toNatClampNeg) → post 0 M)))))))))
set_option maxHeartbeats 4000000 in
set_option maxRecDepth 100000 in
theorem m5_isLike (l : Launch) (g : CG) (AD : Nat → Prop) (M : Mm) (a0 : Nat) (a1 : Nat) (x2 : Int32) (x3 : Int32) (post : Int32 → Mm → Prop) (hk_a0 : mK M a0 = 6) (hk_a1 : mK M a1 = 6) (hw : w5_isLike post M a0 a1 x2 x3) : Met l yX5_isLike (ws_ yX5_isLike cX5_isLike 4 (some .boolean)) rm5_isLike (CPc g AD M [.ref a0, .ref a1, .int x2, .int x3]) (CQi g AD M post) 0 0 AD := by
  refine Met.ofW (cc := cX5_isLike) (maxL := 4) (ret := (some .boolean)) (by decide) rfl ?_
  intro p e s m args below meth c s₁ B hml hv
  obtain ⟨rfl, hK, hH, hA⟩ := hv
  have hx := B.exec
  have hb := B.bytes
  have hr : meth.sig.returnType = (some .boolean) := B.returns
  have hts := atoms_spec (ws := ws_ yX5_isLike cX5_isLike 4 (some .boolean)) B.pre
  have hts : ∀ w ∈ lw_all, w.before _ s = true := fun w h => hts w (List.mem_cons_of_mem _ h)
  have hown : s.vm.findClass RX5 = some m.cls := findClass_of_methodNamed B.named
  have hlocks : meth.locks = false := B.notSynchronized
  have S : CallFix p m c cX5_isLike 4 s _ lw_all RX5 := ⟨hx, hb, hml, hown, hts⟩
  have hS : va_S AD s.heap s.heap [] := va_S.rf
  have hE : Ext M M := Ext.rf
  have hl := lv_entry ([.ref a0, .ref a1, .int x2, .int x3]) (n := 4) (Nat.le_of_ble_eq_true rfl)
  rw [lg_entry_eq]
  generalize (lg_sl ([.ref a0, .ref a1, .int x2, .int x3]) ++ List.replicate (4 - (lg_sl ([.ref a0, .ref a1, .int x2, .int x3])).length) Slot.unset).toArray = ls at hl ⊢
  have hl : lv_has ls 4 [(0, .ref a0), (1, .ref a1), (2, .int x2), (3, .int x3)] := hl
  unfold w5_isLike at hw
  refine lv_aload_n hx hb dX5_isLike_0 rfl (lv_at hl 0 rfl) ?_
  have hk1 := hw.1
  have hw := hw.2
  refine co_getr S hK hH 5 0 600 (by decide) ⟨by decide, rfl, rfl, rfl⟩ (Or.inl q148) hk_a0 (by rw [hk1]; decide) dX5_isLike_1 ?_
  refine lv_iload_n hx hb dX5_isLike_4 rfl (lv_at hl 2 rfl) ?_
  have hin2 := hw.1
  have hw := hw.2
  have hk3 := hw.1
  have hw := hw.2
  refine co_aald S hK hH 1 21 ⟨by decide, rfl, rfl⟩ hk1 hin2 (by rw [hk3]; decide) dX5_isLike_5 ?_
  refine lv_iload_n hx hb dX5_isLike_6 rfl (lv_at hl 3 rfl) ?_
  have hin4 := hw.1
  have hw := hw.2
  refine co_bald S hK hH 0 20 ⟨by decide, rfl, rfl⟩ hk3 hin4 dX5_isLike_7 ?_
  refine lv_aload_n hx hb dX5_isLike_8 rfl (lv_at hl 1 rfl) ?_
  have hk5 := hw.1
  have hw := hw.2
  refine co_getr S hK hH 5 0 600 (by decide) ⟨by decide, rfl, rfl, rfl⟩ (Or.inl q148) hk_a1 (by rw [hk5]; decide) dX5_isLike_9 ?_
  refine lv_iload_n hx hb dX5_isLike_12 rfl (lv_at hl 2 rfl) ?_
  have hin6 := hw.1
  have hw := hw.2
  have hk7 := hw.1
  have hw := hw.2
  refine co_aald S hK hH 1 21 ⟨by decide, rfl, rfl⟩ hk5 hin6 (by rw [hk7]; decide) dX5_isLike_13 ?_
  refine lv_iload_n hx hb dX5_isLike_14 rfl (lv_at hl 3 rfl) ?_
  have hin8 := hw.1
  have hw := hw.2
  refine co_bald S hK hH 0 20 ⟨by decide, rfl, rfl⟩ hk7 hin8 dX5_isLike_15 ?_
  refine lv_icmp_ne (tgt := 42) hx hb dX5_isLike_16 (by decide) (fun c9 => ?_) (fun c9 => ?_)
  · have hw := hw.2 c9
    refine lv_iconst (v := 0) hx hb dX5_isLike_42 (by decide) ?_
    exact co_zret S hr hlocks hH hE hS rfl hw dX5_isLike_43
  · have hw := hw.1 c9
    refine lv_aload_n hx hb dX5_isLike_19 rfl (lv_at hl 0 rfl) ?_
    have hk10 := hw.1
    have hw := hw.2
    refine co_getr S hK hH 5 1 601 (by decide) ⟨by decide, rfl, rfl, rfl⟩ (Or.inl q151) hk_a0 (by rw [hk10]; decide) dX5_isLike_20 ?_
    refine lv_iload_n hx hb dX5_isLike_23 rfl (lv_at hl 2 rfl) ?_
    have hin11 := hw.1
    have hw := hw.2
    have hk12 := hw.1
    have hw := hw.2
    refine co_aald S hK hH 1 21 ⟨by decide, rfl, rfl⟩ hk10 hin11 (by rw [hk12]; decide) dX5_isLike_24 ?_
    refine lv_iload_n hx hb dX5_isLike_25 rfl (lv_at hl 3 rfl) ?_
    have hin13 := hw.1
    have hw := hw.2
    refine co_bald S hK hH 0 20 ⟨by decide, rfl, rfl⟩ hk12 hin13 dX5_isLike_26 ?_
    refine lv_aload_n hx hb dX5_isLike_27 rfl (lv_at hl 1 rfl) ?_
    have hk14 := hw.1
    have hw := hw.2
    refine co_getr S hK hH 5 1 601 (by decide) ⟨by decide, rfl, rfl, rfl⟩ (Or.inl q151) hk_a1 (by rw [hk14]; decide) dX5_isLike_28 ?_
    refine lv_iload_n hx hb dX5_isLike_31 rfl (lv_at hl 2 rfl) ?_
    have hin15 := hw.1
    have hw := hw.2
    have hk16 := hw.1
    have hw := hw.2
    refine co_aald S hK hH 1 21 ⟨by decide, rfl, rfl⟩ hk14 hin15 (by rw [hk16]; decide) dX5_isLike_32 ?_
    refine lv_iload_n hx hb dX5_isLike_33 rfl (lv_at hl 3 rfl) ?_
    have hin17 := hw.1
    have hw := hw.2
    refine co_bald S hK hH 0 20 ⟨by decide, rfl, rfl⟩ hk16 hin17 dX5_isLike_34 ?_
    refine lv_icmp_ne (tgt := 42) hx hb dX5_isLike_35 (by decide) (fun c18 => ?_) (fun c18 => ?_)
    · have hw := hw.2 c18
      refine lv_iconst (v := 0) hx hb dX5_isLike_42 (by decide) ?_
      exact co_zret S hr hlocks hH hE hS rfl hw dX5_isLike_43
    · have hw := hw.1 c18
      refine lv_iconst (v := 1) hx hb dX5_isLike_38 (by decide) ?_
      refine lv_goto (tgt := 43) hx hb dX5_isLike_39 (by decide) ?_
      exact co_zret S hr hlocks hH hE hS rfl hw dX5_isLike_43
/-! FarTypewriter$Screen.differs(LFarTypewriter$Screen;IZ)I -/
abbrev rm5_differs : Room := { frames := 1, cells := 0, slots := 0, locals := 23 }
def w5_differs_41 (post : Int32 → Mm → Prop) (kb : Mm → Nat → Nat → Int32 → Int32 → Int32 → Int32 → Prop) (M : Mm) (a0 : Nat) (a1 : Nat) (x2 : Int32) (x3 : Int32) (x4 : Int32) (x5 : Int32) : Prop :=
  kb M a0 a1 x2 x3 x4 (x5 + 1)
set_option maxHeartbeats 4000000 in
set_option maxRecDepth 100000 in
theorem r5_differs_41 {p : Program} {l : Launch} {e : Env} {s : State} {m : MethodId} {args : Array Value} {below : List Frame} {meth : Method} {c : Code} {g : CG} {AD : Nat → Prop} {M0 : Mm} (S : CallFix p m c cX5_differs 6 s args lw_all RX5) (hr : meth.sig.returnType = (some .int)) (hlocks : meth.locks = false) (hK : KC g s) (hA : ∀ q, s.heap.size ≤ q → AD q) {post : Int32 → Mm → Prop} {kb : Mm → Nat → Nat → Int32 → Int32 → Int32 → Int32 → Prop} (hkb : ∀ (M : Mm) (a0 : Nat) (a1 : Nat) (x2 : Int32) (x3 : Int32) (x4 : Int32) (x5 : Int32), kb M a0 a1 x2 x3 x4 x5 → Ext M0 M → mK M a0 = 6 → mK M a1 = 6 → ∀ (H : Heap) (locs : List Loc), HC g AD M H → va_S AD s.heap H locs → ∀ (ls : Array Slot), lv_has ls 6 [(0, .ref a0), (1, .ref a1), (2, .int x2), (3, .int x3), (4, .int x4), (5, .int x5)] → W p l e rm5_differs s m args below meth c H locs 0 0 (MQ below (CQi g AD M0 post) args s 0 0 AD) (F0 m 6 ls [])) : ∀ (M : Mm) (a0 : Nat) (a1 : Nat) (x2 : Int32) (x3 : Int32) (x4 : Int32) (x5 : Int32), w5_differs_41 post kb M a0 a1 x2 x3 x4 x5 → Ext M0 M → mK M a0 = 6 → mK M a1 = 6 → ∀ (H : Heap) (locs : List Loc), HC g AD M H → va_S AD s.heap H locs → ∀ (ls : Array Slot), lv_has ls 6 [(0, .ref a0), (1, .ref a1), (2, .int x2), (3, .int x3), (4, .int x4), (5, .int x5)] → W p l e rm5_differs s m args below meth c H locs 0 0 (MQ below (CQi g AD M0 post) args s 0 0 AD) (F0 m 41 ls []) := by
  have hx := S.1
  have hb := S.2.1
  have hown := S.2.2.2.1
  have hts := S.2.2.2.2
  intro M a0 a1 x2 x3 x4 x5 hw hE hk_a0 hk_a1 H locs hH hS ls hl
  unfold w5_differs_41 at hw
  refine lv_iinc (v := x5 + 1) (lv' := [(5, .int (x5 + 1)), (0, .ref a0), (1, .ref a1), (2, .int x2), (3, .int x3), (4, .int x4)]) hx hb dX5_differs_41 hl (k := 5) rfl rfl (by decide) rfl (fun ls hl => ?_)
  refine lv_goto (tgt := 6) hx hb dX5_differs_44 (by decide) ?_
  exact hkb _ _ _ _ _ _ _ hw hE hk_a0 hk_a1 _ _ hH hS _ (lv_sub hl [1, 2, 3, 4, 5, 0] rfl)
def w5_differs_37 (post : Int32 → Mm → Prop) (kb : Mm → Nat → Nat → Int32 → Int32 → Int32 → Int32 → Prop) (M : Mm) (a0 : Nat) (a1 : Nat) (x2 : Int32) (x3 : Int32) (x5 : Int32) : Prop :=
  w5_differs_41 post kb M a0 a1 x2 x3 x5 x5
set_option maxHeartbeats 4000000 in
set_option maxRecDepth 100000 in
theorem r5_differs_37 {p : Program} {l : Launch} {e : Env} {s : State} {m : MethodId} {args : Array Value} {below : List Frame} {meth : Method} {c : Code} {g : CG} {AD : Nat → Prop} {M0 : Mm} (S : CallFix p m c cX5_differs 6 s args lw_all RX5) (hr : meth.sig.returnType = (some .int)) (hlocks : meth.locks = false) (hK : KC g s) (hA : ∀ q, s.heap.size ≤ q → AD q) {post : Int32 → Mm → Prop} {kb : Mm → Nat → Nat → Int32 → Int32 → Int32 → Int32 → Prop} (hkb : ∀ (M : Mm) (a0 : Nat) (a1 : Nat) (x2 : Int32) (x3 : Int32) (x4 : Int32) (x5 : Int32), kb M a0 a1 x2 x3 x4 x5 → Ext M0 M → mK M a0 = 6 → mK M a1 = 6 → ∀ (H : Heap) (locs : List Loc), HC g AD M H → va_S AD s.heap H locs → ∀ (ls : Array Slot), lv_has ls 6 [(0, .ref a0), (1, .ref a1), (2, .int x2), (3, .int x3), (4, .int x4), (5, .int x5)] → W p l e rm5_differs s m args below meth c H locs 0 0 (MQ below (CQi g AD M0 post) args s 0 0 AD) (F0 m 6 ls [])) : ∀ (M : Mm) (a0 : Nat) (a1 : Nat) (x2 : Int32) (x3 : Int32) (x5 : Int32), w5_differs_37 post kb M a0 a1 x2 x3 x5 → Ext M0 M → mK M a0 = 6 → mK M a1 = 6 → ∀ (H : Heap) (locs : List Loc), HC g AD M H → va_S AD s.heap H locs → ∀ (ls : Array Slot), lv_has ls 6 [(0, .ref a0), (1, .ref a1), (2, .int x2), (3, .int x3), (5, .int x5)] → W p l e rm5_differs s m args below meth c H locs 0 0 (MQ below (CQi g AD M0 post) args s 0 0 AD) (F0 m 37 ls []) := by
  have hx := S.1
  have hb := S.2.1
  have hown := S.2.2.2.1
  have hts := S.2.2.2.2
  intro M a0 a1 x2 x3 x5 hw hE hk_a0 hk_a1 H locs hH hS ls hl
  unfold w5_differs_37 at hw
  refine lv_iload hx hb dX5_differs_37 (lv_at hl 4 rfl) ?_
  refine lv_istore (lv' := [(4, .int x5), (0, .ref a0), (1, .ref a1), (2, .int x2), (3, .int x3), (5, .int x5)]) hx hb dX5_differs_39 hl (by decide) rfl (fun ls hl => ?_)
  exact r5_differs_41 S hr hlocks hK hA hkb _ _ _ _ _ _ _ hw hE hk_a0 hk_a1 _ _ hH hS _ (lv_sub hl [1, 2, 3, 4, 0, 5] rfl)
def b5_differs_6 (post : Int32 → Mm → Prop)  (kb : Mm → Nat → Nat → Int32 → Int32 → Int32 → Int32 → Prop) (M : Mm) (a0 : Nat) (a1 : Nat) (x2 : Int32) (x3 : Int32) (x4 : Int32) (x5 : Int32) : Prop :=
  (24 ≤ x5 → post x4 M) ∧ (¬ 24 ≤ x5 → w5_isLike (fun (r3 : Int32) (M2 : Mm) => (r3 = 0 → (x3 = 0 → w5_differs_37 post kb M2 a0 a1 x2 x3 x5) ∧ (¬ x3 = 0 → (x4 = (-1) → w5_differs_37 post kb M2 a0 a1 x2 x3 x5) ∧ (¬ x4 = (-1) → w5_differs_41 post kb M2 a0 a1 x2 x3 x4 x5))) ∧ (¬ r3 = 0 → w5_differs_41 post kb M2 a0 a1 x2 x3 x4 x5)) M a0 a1 x2 x5)
def w5_differs_6 (post : Int32 → Mm → Prop)  : Nat → Mm → Nat → Nat → Int32 → Int32 → Int32 → Int32 → Prop
  | 0 => fun _ _ _ _ _ _ _ => False
  | n + 1 => b5_differs_6 post  (w5_differs_6 post  n)
set_option maxHeartbeats 4000000 in
set_option maxRecDepth 100000 in
theorem r5_differs_6 {p : Program} {l : Launch} {e : Env} {s : State} {m : MethodId} {args : Array Value} {below : List Frame} {meth : Method} {c : Code} {g : CG} {AD : Nat → Prop} {M0 : Mm} (S : CallFix p m c cX5_differs 6 s args lw_all RX5) (hr : meth.sig.returnType = (some .int)) (hlocks : meth.locks = false) (hK : KC g s) (hA : ∀ q, s.heap.size ≤ q → AD q) {post : Int32 → Mm → Prop}  : ∀ n : Nat, ∀ (M : Mm) (a0 : Nat) (a1 : Nat) (x2 : Int32) (x3 : Int32) (x4 : Int32) (x5 : Int32), w5_differs_6 post  n M a0 a1 x2 x3 x4 x5 → Ext M0 M → mK M a0 = 6 → mK M a1 = 6 → ∀ (H : Heap) (locs : List Loc), HC g AD M H → va_S AD s.heap H locs → ∀ (ls : Array Slot), lv_has ls 6 [(0, .ref a0), (1, .ref a1), (2, .int x2), (3, .int x3), (4, .int x4), (5, .int x5)] → W p l e rm5_differs s m args below meth c H locs 0 0 (MQ below (CQi g AD M0 post) args s 0 0 AD) (F0 m 6 ls []) := by
  have hx := S.1
  have hb := S.2.1
  have hown := S.2.2.2.1
  have hts := S.2.2.2.2
  intro n
  induction n with
  | zero =>
    intro M a0 a1 x2 x3 x4 x5 hw
    exact hw.elim
  | succ n hkb =>
    intro M a0 a1 x2 x3 x4 x5 hw hE hk_a0 hk_a1 H locs hH hS ls hl
    unfold w5_differs_6 b5_differs_6 at hw
    refine lv_iload hx hb dX5_differs_6 (lv_at hl 5 rfl) ?_
    refine lv_bipush (v := 24) hx hb dX5_differs_8 (by decide) ?_
    refine lv_icmp_ge (tgt := 47) hx hb dX5_differs_10 (by decide) (fun c1 => ?_) (fun c1 => ?_)
    · have hw := hw.1 c1
      refine lv_iload hx hb dX5_differs_47 (lv_at hl 4 rfl) ?_
      exact co_iret S hr hlocks hH hE hS hw dX5_differs_49
    · have hw := hw.2 c1
      refine lv_aload_n hx hb dX5_differs_13 rfl (lv_at hl 0 rfl) ?_
      refine lv_aload_n hx hb dX5_differs_14 rfl (lv_at hl 1 rfl) ?_
      refine lv_iload_n hx hb dX5_differs_15 rfl (lv_at hl 2 rfl) ?_
      refine lv_iload hx hb dX5_differs_16 (lv_at hl 5 rfl) ?_
      refine co_calli (va_runV (As := [.ref a1, .int x2, .int x5]) (rest := []) S (m5_isLike l g AD M a0 a1 x2 x5 _ hk_a0 hk_a1 hw) (cwV 3 hts (lw_V q557 q558 q559 q59 q560) rfl rfl rfl (by decide +kernel) ⟨Nat.le_of_ble_eq_true rfl, Nat.le_of_ble_eq_true rfl⟩) ⟨co_blind, co_recv hK hH (c := 5) (by decide) hk_a0, co_pre hK hH hA hS⟩ rfl rfl hl.1 rfl (lv_room (Nat.le_of_ble_eq_true rfl)) dX5_differs_18 ⟨Nat.le_refl _, Nat.le_refl _⟩) hS (fun r3 M2 H locs hw hH hE4 hS => ?_)
      have hk6 := hE4.k hk_a0 (by decide)
      have hk7 := hE4.k hk_a1 (by decide)
      have hE := hE.tr hE4
      refine lv_if_ne (tgt := 41) hx hb dX5_differs_21 (by decide) (fun c8 => ?_) (fun c8 => ?_)
      · have hw := hw.2 c8
        exact r5_differs_41 S hr hlocks hK hA hkb _ _ _ _ _ _ _ hw hE hk6 hk7 _ _ hH hS _ (lv_sub hl [0, 1, 2, 3, 4, 5] rfl)
      · have hw := hw.1 c8
        refine lv_iload_n hx hb dX5_differs_24 rfl (lv_at hl 3 rfl) ?_
        refine lv_if_eq (tgt := 37) hx hb dX5_differs_25 (by decide) (fun c9 => ?_) (fun c9 => ?_)
        · have hw := hw.1 c9
          exact r5_differs_37 S hr hlocks hK hA hkb _ _ _ _ _ _ hw hE hk6 hk7 _ _ hH hS _ (lv_sub hl [0, 1, 2, 3, 5] rfl)
        · have hw := hw.2 c9
          refine lv_iload hx hb dX5_differs_28 (lv_at hl 4 rfl) ?_
          refine lv_iconst (v := (-1)) hx hb dX5_differs_30 (by decide) ?_
          refine lv_icmp_eq (tgt := 37) hx hb dX5_differs_31 (by decide) (fun c10 => ?_) (fun c10 => ?_)
          · have hw := hw.1 c10
            exact r5_differs_37 S hr hlocks hK hA hkb _ _ _ _ _ _ hw hE hk6 hk7 _ _ hH hS _ (lv_sub hl [0, 1, 2, 3, 5] rfl)
          · have hw := hw.2 c10
            refine lv_goto (tgt := 41) hx hb dX5_differs_34 (by decide) ?_
            exact r5_differs_41 S hr hlocks hK hA hkb _ _ _ _ _ _ _ hw hE hk6 hk7 _ _ hH hS _ (lv_sub hl [0, 1, 2, 3, 4, 5] rfl)
def w5_differs (post : Int32 → Mm → Prop) (M : Mm) (a0 : Nat) (a1 : Nat) (x2 : Int32) (x3 : Int32) : Prop :=
  ∃ n, w5_differs_6 post  n M a0 a1 x2 x3 (-1) 0
set_option maxHeartbeats 4000000 in
set_option maxRecDepth 100000 in
theorem m5_differs (l : Launch) (g : CG) (AD : Nat → Prop) (M : Mm) (a0 : Nat) (a1 : Nat) (x2 : Int32) (x3 : Int32) (post : Int32 → Mm → Prop) (hk_a0 : mK M a0 = 6) (hk_a1 : mK M a1 = 6) (hw : w5_differs post M a0 a1 x2 x3) : Met l yX5_differs (ws_ yX5_differs cX5_differs 6 (some .int)) rm5_differs (CPc g AD M [.ref a0, .ref a1, .int x2, .int x3]) (CQi g AD M post) 0 0 AD := by
  refine Met.ofW (cc := cX5_differs) (maxL := 6) (ret := (some .int)) (by decide) rfl ?_
  intro p e s m args below meth c s₁ B hml hv
  obtain ⟨rfl, hK, hH, hA⟩ := hv
  have hx := B.exec
  have hb := B.bytes
  have hr : meth.sig.returnType = (some .int) := B.returns
  have hts := atoms_spec (ws := ws_ yX5_differs cX5_differs 6 (some .int)) B.pre
  have hts : ∀ w ∈ lw_all, w.before _ s = true := fun w h => hts w (List.mem_cons_of_mem _ h)
  have hown : s.vm.findClass RX5 = some m.cls := findClass_of_methodNamed B.named
  have hlocks : meth.locks = false := B.notSynchronized
  have S : CallFix p m c cX5_differs 6 s _ lw_all RX5 := ⟨hx, hb, hml, hown, hts⟩
  have hS : va_S AD s.heap s.heap [] := va_S.rf
  have hE : Ext M M := Ext.rf
  have hl := lv_entry ([.ref a0, .ref a1, .int x2, .int x3]) (n := 6) (Nat.le_of_ble_eq_true rfl)
  rw [lg_entry_eq]
  generalize (lg_sl ([.ref a0, .ref a1, .int x2, .int x3]) ++ List.replicate (6 - (lg_sl ([.ref a0, .ref a1, .int x2, .int x3])).length) Slot.unset).toArray = ls at hl ⊢
  have hl : lv_has ls 6 [(0, .ref a0), (1, .ref a1), (2, .int x2), (3, .int x3)] := hl
  unfold w5_differs at hw
  refine lv_iconst (v := (-1)) hx hb dX5_differs_0 (by decide) ?_
  refine lv_istore (lv' := [(4, .int (-1)), (0, .ref a0), (1, .ref a1), (2, .int x2), (3, .int x3)]) hx hb dX5_differs_1 hl (by decide) rfl (fun ls hl => ?_)
  refine lv_iconst (v := 0) hx hb dX5_differs_3 (by decide) ?_
  refine lv_istore (lv' := [(5, .int 0), (4, .int (-1)), (0, .ref a0), (1, .ref a1), (2, .int x2), (3, .int x3)]) hx hb dX5_differs_4 hl (by decide) rfl (fun ls hl => ?_)
  obtain ⟨n, hw⟩ := hw
  refine r5_differs_6 S hr hlocks hK hA  n _ _ _ _ _ _ _ hw hE hk_a0 hk_a1 _ _ hH hS _ (lv_sub hl [2, 3, 4, 5, 1, 0] rfl)
/-! FarTypewriter$Screen.isRun(III)Z -/
abbrev rm5_isRun : Room := { frames := 0, cells := 0, slots := 0, locals := 0 }
def w5_isRun_62 (post : Int32 → Mm → Prop) (kb : Mm → Nat → Int32 → Int32 → Int32 → Int32 → Int32 → Prop) (M : Mm) (a0 : Nat) (x1 : Int32) (x2 : Int32) (x3 : Int32) (x5 : Int32) (t0 : Int32) : Prop :=
  kb M a0 x1 x2 x3 t0 (x5 + 1)
set_option maxHeartbeats 4000000 in
set_option maxRecDepth 100000 in
theorem r5_isRun_62 {p : Program} {l : Launch} {e : Env} {s : State} {m : MethodId} {args : Array Value} {below : List Frame} {meth : Method} {c : Code} {g : CG} {AD : Nat → Prop} {M0 : Mm} (S : CallFix p m c cX5_isRun 6 s args lw_all RX5) (hr : meth.sig.returnType = (some .boolean)) (hlocks : meth.locks = false) (hK : KC g s) (hA : ∀ q, s.heap.size ≤ q → AD q) {post : Int32 → Mm → Prop} {kb : Mm → Nat → Int32 → Int32 → Int32 → Int32 → Int32 → Prop} (hkb : ∀ (M : Mm) (a0 : Nat) (x1 : Int32) (x2 : Int32) (x3 : Int32) (x4 : Int32) (x5 : Int32), kb M a0 x1 x2 x3 x4 x5 → Ext M0 M → mK M a0 = 6 → ∀ (H : Heap) (locs : List Loc), HC g AD M H → va_S AD s.heap H locs → ∀ (ls : Array Slot), lv_has ls 6 [(0, .ref a0), (1, .int x1), (2, .int x2), (3, .int x3), (4, .int x4), (5, .int x5)] → W p l e rm5_isRun s m args below meth c H locs 0 0 (MQ below (CQi g AD M0 post) args s 0 0 AD) (F0 m 6 ls [])) : ∀ (M : Mm) (a0 : Nat) (x1 : Int32) (x2 : Int32) (x3 : Int32) (x5 : Int32) (t0 : Int32), w5_isRun_62 post kb M a0 x1 x2 x3 x5 t0 → Ext M0 M → mK M a0 = 6 → ∀ (H : Heap) (locs : List Loc), HC g AD M H → va_S AD s.heap H locs → ∀ (ls : Array Slot), lv_has ls 6 [(0, .ref a0), (1, .int x1), (2, .int x2), (3, .int x3), (5, .int x5)] → W p l e rm5_isRun s m args below meth c H locs 0 0 (MQ below (CQi g AD M0 post) args s 0 0 AD) (F0 m 62 ls [.int t0]) := by
  have hx := S.1
  have hb := S.2.1
  have hown := S.2.2.2.1
  have hts := S.2.2.2.2
  intro M a0 x1 x2 x3 x5 t0 hw hE hk_a0 H locs hH hS ls hl
  unfold w5_isRun_62 at hw
  refine lv_istore (lv' := [(4, .int t0), (0, .ref a0), (1, .int x1), (2, .int x2), (3, .int x3), (5, .int x5)]) hx hb dX5_isRun_62 hl (by decide) rfl (fun ls hl => ?_)
  refine lv_iinc (v := x5 + 1) (lv' := [(5, .int (x5 + 1)), (4, .int t0), (0, .ref a0), (1, .int x1), (2, .int x2), (3, .int x3)]) hx hb dX5_isRun_64 hl (k := 5) rfl rfl (by decide) rfl (fun ls hl => ?_)
  refine lv_goto (tgt := 6) hx hb dX5_isRun_67 (by decide) ?_
  exact hkb _ _ _ _ _ _ _ hw hE hk_a0 _ _ hH hS _ (lv_sub hl [2, 3, 4, 5, 1, 0] rfl)
def w5_isRun_61 (post : Int32 → Mm → Prop) (kb : Mm → Nat → Int32 → Int32 → Int32 → Int32 → Int32 → Prop) (M : Mm) (a0 : Nat) (x1 : Int32) (x2 : Int32) (x3 : Int32) (x5 : Int32) : Prop :=
  w5_isRun_62 post kb M a0 x1 x2 x3 x5 0
set_option maxHeartbeats 4000000 in
set_option maxRecDepth 100000 in
theorem r5_isRun_61 {p : Program} {l : Launch} {e : Env} {s : State} {m : MethodId} {args : Array Value} {below : List Frame} {meth : Method} {c : Code} {g : CG} {AD : Nat → Prop} {M0 : Mm} (S : CallFix p m c cX5_isRun 6 s args lw_all RX5) (hr : meth.sig.returnType = (some .boolean)) (hlocks : meth.locks = false) (hK : KC g s) (hA : ∀ q, s.heap.size ≤ q → AD q) {post : Int32 → Mm → Prop} {kb : Mm → Nat → Int32 → Int32 → Int32 → Int32 → Int32 → Prop} (hkb : ∀ (M : Mm) (a0 : Nat) (x1 : Int32) (x2 : Int32) (x3 : Int32) (x4 : Int32) (x5 : Int32), kb M a0 x1 x2 x3 x4 x5 → Ext M0 M → mK M a0 = 6 → ∀ (H : Heap) (locs : List Loc), HC g AD M H → va_S AD s.heap H locs → ∀ (ls : Array Slot), lv_has ls 6 [(0, .ref a0), (1, .int x1), (2, .int x2), (3, .int x3), (4, .int x4), (5, .int x5)] → W p l e rm5_isRun s m args below meth c H locs 0 0 (MQ below (CQi g AD M0 post) args s 0 0 AD) (F0 m 6 ls [])) : ∀ (M : Mm) (a0 : Nat) (x1 : Int32) (x2 : Int32) (x3 : Int32) (x5 : Int32), w5_isRun_61 post kb M a0 x1 x2 x3 x5 → Ext M0 M → mK M a0 = 6 → ∀ (H : Heap) (locs : List Loc), HC g AD M H → va_S AD s.heap H locs → ∀ (ls : Array Slot), lv_has ls 6 [(0, .ref a0), (1, .int x1), (2, .int x2), (3, .int x3), (5, .int x5)] → W p l e rm5_isRun s m args below meth c H locs 0 0 (MQ below (CQi g AD M0 post) args s 0 0 AD) (F0 m 61 ls []) := by
  have hx := S.1
  have hb := S.2.1
  have hown := S.2.2.2.1
  have hts := S.2.2.2.2
  intro M a0 x1 x2 x3 x5 hw hE hk_a0 H locs hH hS ls hl
  unfold w5_isRun_61 at hw
  refine lv_iconst (v := 0) hx hb dX5_isRun_61 (by decide) ?_
  exact r5_isRun_62 S hr hlocks hK hA hkb _ _ _ _ _ _ _ hw hE hk_a0 _ _ hH hS _ (lv_sub hl [0, 1, 2, 3, 4] rfl)
def b5_isRun_6 (post : Int32 → Mm → Prop)  (kb : Mm → Nat → Int32 → Int32 → Int32 → Int32 → Int32 → Prop) (M : Mm) (a0 : Nat) (x1 : Int32) (x2 : Int32) (x3 : Int32) (x4 : Int32) (x5 : Int32) : Prop :=
  (x3 < x5 → (x4 = 0 ∨ x4 = 1) ∧ (post x4 M)) ∧ (¬ x3 < x5 → (x4 = 0 → (x4 = 0 ∨ x4 = 1) ∧ (post x4 M)) ∧ (¬ x4 = 0 → mK M (mP M 600 a0 0) = 21 ∧ (vp_in x1 8 ∧ (mK M (mP M 21 (mP M 600 a0 0) x1.toNatClampNeg) = 20 ∧ (vp_in x5 24 ∧ (mK M (mP M 600 a0 0) = 21 ∧ (vp_in x1 8 ∧ (mK M (mP M 21 (mP M 600 a0 0) x1.toNatClampNeg) = 20 ∧ (vp_in x2 24 ∧ (((mI M 20 (mP M 21 (mP M 600 a0 0) x1.toNatClampNeg) x5.toNatClampNeg) = (mI M 20 (mP M 21 (mP M 600 a0 0) x1.toNatClampNeg) x2.toNatClampNeg) → mK M (mP M 601 a0 0) = 21 ∧ (vp_in x1 8 ∧ (mK M (mP M 21 (mP M 601 a0 0) x1.toNatClampNeg) = 20 ∧ (vp_in x5 24 ∧ (mK M (mP M 601 a0 0) = 21 ∧ (vp_in x1 8 ∧ (mK M (mP M 21 (mP M 601 a0 0) x1.toNatClampNeg) = 20 ∧ (vp_in x2 24 ∧ (((mI M 20 (mP M 21 (mP M 601 a0 0) x1.toNatClampNeg) x5.toNatClampNeg) = (mI M 20 (mP M 21 (mP M 601 a0 0) x1.toNatClampNeg) x2.toNatClampNeg) → w5_isRun_62 post kb M a0 x1 x2 x3 x5 1) ∧ (¬ (mI M 20 (mP M 21 (mP M 601 a0 0) x1.toNatClampNeg) x5.toNatClampNeg) = (mI M 20 (mP M 21 (mP M 601 a0 0) x1.toNatClampNeg) x2.toNatClampNeg) → w5_isRun_61 post kb M a0 x1 x2 x3 x5)))))))))) ∧ (¬ (mI M 20 (mP M 21 (mP M 600 a0 0) x1.toNatClampNeg) x5.toNatClampNeg) = (mI M 20 (mP M 21 (mP M 600 a0 0) x1.toNatClampNeg) x2.toNatClampNeg) → w5_isRun_61 post kb M a0 x1 x2 x3 x5)))))))))))
def w5_isRun_6 (post : Int32 → Mm → Prop)  : Nat → Mm → Nat → Int32 → Int32 → Int32 → Int32 → Int32 → Prop
  | 0 => fun _ _ _ _ _ _ _ => False
  | n + 1 => b5_isRun_6 post  (w5_isRun_6 post  n)
set_option maxHeartbeats 4000000 in
set_option maxRecDepth 100000 in
theorem r5_isRun_6 {p : Program} {l : Launch} {e : Env} {s : State} {m : MethodId} {args : Array Value} {below : List Frame} {meth : Method} {c : Code} {g : CG} {AD : Nat → Prop} {M0 : Mm} (S : CallFix p m c cX5_isRun 6 s args lw_all RX5) (hr : meth.sig.returnType = (some .boolean)) (hlocks : meth.locks = false) (hK : KC g s) (hA : ∀ q, s.heap.size ≤ q → AD q) {post : Int32 → Mm → Prop}  : ∀ n : Nat, ∀ (M : Mm) (a0 : Nat) (x1 : Int32) (x2 : Int32) (x3 : Int32) (x4 : Int32) (x5 : Int32), w5_isRun_6 post  n M a0 x1 x2 x3 x4 x5 → Ext M0 M → mK M a0 = 6 → ∀ (H : Heap) (locs : List Loc), HC g AD M H → va_S AD s.heap H locs → ∀ (ls : Array Slot), lv_has ls 6 [(0, .ref a0), (1, .int x1), (2, .int x2), (3, .int x3), (4, .int x4), (5, .int x5)] → W p l e rm5_isRun s m args below meth c H locs 0 0 (MQ below (CQi g AD M0 post) args s 0 0 AD) (F0 m 6 ls []) := by
  have hx := S.1
  have hb := S.2.1
  have hown := S.2.2.2.1
  have hts := S.2.2.2.2
  intro n
  induction n with
  | zero =>
    intro M a0 x1 x2 x3 x4 x5 hw
    exact hw.elim
  | succ n hkb =>
    intro M a0 x1 x2 x3 x4 x5 hw hE hk_a0 H locs hH hS ls hl
    unfold w5_isRun_6 b5_isRun_6 at hw
    refine lv_iload hx hb dX5_isRun_6 (lv_at hl 5 rfl) ?_
    refine lv_iload_n hx hb dX5_isRun_8 rfl (lv_at hl 3 rfl) ?_
    refine lv_icmp_gt (tgt := 70) hx hb dX5_isRun_9 (by decide) (fun c1 => ?_) (fun c1 => ?_)
    · have hw := hw.1 c1
      refine lv_iload hx hb dX5_isRun_70 (lv_at hl 4 rfl) ?_
      have hz := hw.1
      have hw := hw.2
      exact co_zret S hr hlocks hH hE hS (mo_bool hz).1 hw dX5_isRun_72
    · have hw := hw.2 c1
      refine lv_iload hx hb dX5_isRun_12 (lv_at hl 4 rfl) ?_
      refine lv_if_eq (tgt := 70) hx hb dX5_isRun_14 (by decide) (fun c2 => ?_) (fun c2 => ?_)
      · have hw := hw.1 c2
        refine lv_iload hx hb dX5_isRun_70 (lv_at hl 4 rfl) ?_
        have hz := hw.1
        have hw := hw.2
        exact co_zret S hr hlocks hH hE hS (mo_bool hz).1 hw dX5_isRun_72
      · have hw := hw.2 c2
        refine lv_aload_n hx hb dX5_isRun_17 rfl (lv_at hl 0 rfl) ?_
        have hk3 := hw.1
        have hw := hw.2
        refine co_getr S hK hH 5 0 600 (by decide) ⟨by decide, rfl, rfl, rfl⟩ (Or.inl q148) hk_a0 (by rw [hk3]; decide) dX5_isRun_18 ?_
        refine lv_iload_n hx hb dX5_isRun_21 rfl (lv_at hl 1 rfl) ?_
        have hin4 := hw.1
        have hw := hw.2
        have hk5 := hw.1
        have hw := hw.2
        refine co_aald S hK hH 1 21 ⟨by decide, rfl, rfl⟩ hk3 hin4 (by rw [hk5]; decide) dX5_isRun_22 ?_
        refine lv_iload hx hb dX5_isRun_23 (lv_at hl 5 rfl) ?_
        have hin6 := hw.1
        have hw := hw.2
        refine co_bald S hK hH 0 20 ⟨by decide, rfl, rfl⟩ hk5 hin6 dX5_isRun_25 ?_
        refine lv_aload_n hx hb dX5_isRun_26 rfl (lv_at hl 0 rfl) ?_
        have hk7 := hw.1
        have hw := hw.2
        refine co_getr S hK hH 5 0 600 (by decide) ⟨by decide, rfl, rfl, rfl⟩ (Or.inl q148) hk_a0 (by rw [hk7]; decide) dX5_isRun_27 ?_
        refine lv_iload_n hx hb dX5_isRun_30 rfl (lv_at hl 1 rfl) ?_
        have hin8 := hw.1
        have hw := hw.2
        have hk9 := hw.1
        have hw := hw.2
        refine co_aald S hK hH 1 21 ⟨by decide, rfl, rfl⟩ hk7 hin8 (by rw [hk9]; decide) dX5_isRun_31 ?_
        refine lv_iload_n hx hb dX5_isRun_32 rfl (lv_at hl 2 rfl) ?_
        have hin10 := hw.1
        have hw := hw.2
        refine co_bald S hK hH 0 20 ⟨by decide, rfl, rfl⟩ hk9 hin10 dX5_isRun_33 ?_
        refine lv_icmp_ne (tgt := 61) hx hb dX5_isRun_34 (by decide) (fun c11 => ?_) (fun c11 => ?_)
        · have hw := hw.2 c11
          exact r5_isRun_61 S hr hlocks hK hA hkb _ _ _ _ _ _ hw hE hk_a0 _ _ hH hS _ (lv_sub hl [0, 1, 2, 3, 5] rfl)
        · have hw := hw.1 c11
          refine lv_aload_n hx hb dX5_isRun_37 rfl (lv_at hl 0 rfl) ?_
          have hk12 := hw.1
          have hw := hw.2
          refine co_getr S hK hH 5 1 601 (by decide) ⟨by decide, rfl, rfl, rfl⟩ (Or.inl q151) hk_a0 (by rw [hk12]; decide) dX5_isRun_38 ?_
          refine lv_iload_n hx hb dX5_isRun_41 rfl (lv_at hl 1 rfl) ?_
          have hin13 := hw.1
          have hw := hw.2
          have hk14 := hw.1
          have hw := hw.2
          refine co_aald S hK hH 1 21 ⟨by decide, rfl, rfl⟩ hk12 hin13 (by rw [hk14]; decide) dX5_isRun_42 ?_
          refine lv_iload hx hb dX5_isRun_43 (lv_at hl 5 rfl) ?_
          have hin15 := hw.1
          have hw := hw.2
          refine co_bald S hK hH 0 20 ⟨by decide, rfl, rfl⟩ hk14 hin15 dX5_isRun_45 ?_
          refine lv_aload_n hx hb dX5_isRun_46 rfl (lv_at hl 0 rfl) ?_
          have hk16 := hw.1
          have hw := hw.2
          refine co_getr S hK hH 5 1 601 (by decide) ⟨by decide, rfl, rfl, rfl⟩ (Or.inl q151) hk_a0 (by rw [hk16]; decide) dX5_isRun_47 ?_
          refine lv_iload_n hx hb dX5_isRun_50 rfl (lv_at hl 1 rfl) ?_
          have hin17 := hw.1
          have hw := hw.2
          have hk18 := hw.1
          have hw := hw.2
          refine co_aald S hK hH 1 21 ⟨by decide, rfl, rfl⟩ hk16 hin17 (by rw [hk18]; decide) dX5_isRun_51 ?_
          refine lv_iload_n hx hb dX5_isRun_52 rfl (lv_at hl 2 rfl) ?_
          have hin19 := hw.1
          have hw := hw.2
          refine co_bald S hK hH 0 20 ⟨by decide, rfl, rfl⟩ hk18 hin19 dX5_isRun_53 ?_
          refine lv_icmp_ne (tgt := 61) hx hb dX5_isRun_54 (by decide) (fun c20 => ?_) (fun c20 => ?_)
          · have hw := hw.2 c20
            exact r5_isRun_61 S hr hlocks hK hA hkb _ _ _ _ _ _ hw hE hk_a0 _ _ hH hS _ (lv_sub hl [0, 1, 2, 3, 5] rfl)
          · have hw := hw.1 c20
            refine lv_iconst (v := 1) hx hb dX5_isRun_57 (by decide) ?_
            refine lv_goto (tgt := 62) hx hb dX5_isRun_58 (by decide) ?_
            exact r5_isRun_62 S hr hlocks hK hA hkb _ _ _ _ _ _ _ hw hE hk_a0 _ _ hH hS _ (lv_sub hl [0, 1, 2, 3, 5] rfl)
def w5_isRun (post : Int32 → Mm → Prop) (M : Mm) (a0 : Nat) (x1 : Int32) (x2 : Int32) (x3 : Int32) : Prop :=
  ∃ n, w5_isRun_6 post  n M a0 x1 x2 x3 1 x2
set_option maxHeartbeats 4000000 in
set_option maxRecDepth 100000 in
theorem m5_isRun (l : Launch) (g : CG) (AD : Nat → Prop) (M : Mm) (a0 : Nat) (x1 : Int32) (x2 : Int32) (x3 : Int32) (post : Int32 → Mm → Prop) (hk_a0 : mK M a0 = 6) (hw : w5_isRun post M a0 x1 x2 x3) : Met l yX5_isRun (ws_ yX5_isRun cX5_isRun 6 (some .boolean)) rm5_isRun (CPc g AD M [.ref a0, .int x1, .int x2, .int x3]) (CQi g AD M post) 0 0 AD := by
  refine Met.ofW (cc := cX5_isRun) (maxL := 6) (ret := (some .boolean)) (by decide) rfl ?_
  intro p e s m args below meth c s₁ B hml hv
  obtain ⟨rfl, hK, hH, hA⟩ := hv
  have hx := B.exec
  have hb := B.bytes
  have hr : meth.sig.returnType = (some .boolean) := B.returns
  have hts := atoms_spec (ws := ws_ yX5_isRun cX5_isRun 6 (some .boolean)) B.pre
  have hts : ∀ w ∈ lw_all, w.before _ s = true := fun w h => hts w (List.mem_cons_of_mem _ h)
  have hown : s.vm.findClass RX5 = some m.cls := findClass_of_methodNamed B.named
  have hlocks : meth.locks = false := B.notSynchronized
  have S : CallFix p m c cX5_isRun 6 s _ lw_all RX5 := ⟨hx, hb, hml, hown, hts⟩
  have hS : va_S AD s.heap s.heap [] := va_S.rf
  have hE : Ext M M := Ext.rf
  have hl := lv_entry ([.ref a0, .int x1, .int x2, .int x3]) (n := 6) (Nat.le_of_ble_eq_true rfl)
  rw [lg_entry_eq]
  generalize (lg_sl ([.ref a0, .int x1, .int x2, .int x3]) ++ List.replicate (6 - (lg_sl ([.ref a0, .int x1, .int x2, .int x3])).length) Slot.unset).toArray = ls at hl ⊢
  have hl : lv_has ls 6 [(0, .ref a0), (1, .int x1), (2, .int x2), (3, .int x3)] := hl
  unfold w5_isRun at hw
  refine lv_iconst (v := 1) hx hb dX5_isRun_0 (by decide) ?_
  refine lv_istore (lv' := [(4, .int 1), (0, .ref a0), (1, .int x1), (2, .int x2), (3, .int x3)]) hx hb dX5_isRun_1 hl (by decide) rfl (fun ls hl => ?_)
  refine lv_iload_n hx hb dX5_isRun_3 rfl (lv_at hl 3 rfl) ?_
  refine lv_istore (lv' := [(5, .int x2), (4, .int 1), (0, .ref a0), (1, .int x1), (2, .int x2), (3, .int x3)]) hx hb dX5_isRun_4 hl (by decide) rfl (fun ls hl => ?_)
  obtain ⟨n, hw⟩ := hw
  refine r5_isRun_6 S hr hlocks hK hA  n _ _ _ _ _ _ _ hw hE hk_a0 _ _ hH hS _ (lv_sub hl [2, 3, 4, 5, 1, 0] rfl)
/-! FarTypewriter$Screen.isSame(LFarTypewriter$Screen;)Z -/
abbrev rm5_isSame : Room := { frames := 1, cells := 0, slots := 0, locals := 23 }
def b5_isSame_30 (post : Int32 → Mm → Prop)  (kb : Mm → Nat → Nat → Int32 → Int32 → Prop) (M : Mm) (a0 : Nat) (a1 : Nat) (x2 : Int32) (x3 : Int32) : Prop :=
  (192 ≤ x3 → (x2 = 0 ∨ x2 = 1) ∧ (post x2 M)) ∧ (¬ 192 ≤ x3 → (x2 = 0 → (x2 = 0 ∨ x2 = 1) ∧ (post x2 M)) ∧ (¬ x2 = 0 → w5_isLike (fun (r5 : Int32) (M4 : Mm) => kb M4 a0 a1 r5 (x3 + 1)) M a0 a1 (x3 / 24) (x3 - x3 / 24 * 24)))
def w5_isSame_30 (post : Int32 → Mm → Prop)  : Nat → Mm → Nat → Nat → Int32 → Int32 → Prop
  | 0 => fun _ _ _ _ _ => False
  | n + 1 => b5_isSame_30 post  (w5_isSame_30 post  n)
set_option maxHeartbeats 4000000 in
set_option maxRecDepth 100000 in
theorem r5_isSame_30 {p : Program} {l : Launch} {e : Env} {s : State} {m : MethodId} {args : Array Value} {below : List Frame} {meth : Method} {c : Code} {g : CG} {AD : Nat → Prop} {M0 : Mm} (S : CallFix p m c cX5_isSame 4 s args lw_all RX5) (hr : meth.sig.returnType = (some .boolean)) (hlocks : meth.locks = false) (hK : KC g s) (hA : ∀ q, s.heap.size ≤ q → AD q) {post : Int32 → Mm → Prop}  : ∀ n : Nat, ∀ (M : Mm) (a0 : Nat) (a1 : Nat) (x2 : Int32) (x3 : Int32), w5_isSame_30 post  n M a0 a1 x2 x3 → Ext M0 M → mK M a0 = 6 → mK M a1 = 6 → ∀ (H : Heap) (locs : List Loc), HC g AD M H → va_S AD s.heap H locs → ∀ (ls : Array Slot), lv_has ls 4 [(0, .ref a0), (1, .ref a1), (2, .int x2), (3, .int x3)] → W p l e rm5_isSame s m args below meth c H locs 0 0 (MQ below (CQi g AD M0 post) args s 0 0 AD) (F0 m 30 ls []) := by
  have hx := S.1
  have hb := S.2.1
  have hown := S.2.2.2.1
  have hts := S.2.2.2.2
  intro n
  induction n with
  | zero =>
    intro M a0 a1 x2 x3 hw
    exact hw.elim
  | succ n hkb =>
    intro M a0 a1 x2 x3 hw hE hk_a0 hk_a1 H locs hH hS ls hl
    unfold w5_isSame_30 b5_isSame_30 at hw
    refine lv_iload_n hx hb dX5_isSame_30 rfl (lv_at hl 3 rfl) ?_
    refine lv_sipush (v := 192) hx hb dX5_isSame_31 (by decide) ?_
    refine lv_icmp_ge (tgt := 61) hx hb dX5_isSame_34 (by decide) (fun c2 => ?_) (fun c2 => ?_)
    · have hw := hw.1 c2
      refine lv_iload_n hx hb dX5_isSame_61 rfl (lv_at hl 2 rfl) ?_
      have hz := hw.1
      have hw := hw.2
      exact co_zret S hr hlocks hH hE hS (mo_bool hz).1 hw dX5_isSame_62
    · have hw := hw.2 c2
      refine lv_iload_n hx hb dX5_isSame_37 rfl (lv_at hl 2 rfl) ?_
      refine lv_if_eq (tgt := 61) hx hb dX5_isSame_38 (by decide) (fun c3 => ?_) (fun c3 => ?_)
      · have hw := hw.1 c3
        refine lv_iload_n hx hb dX5_isSame_61 rfl (lv_at hl 2 rfl) ?_
        have hz := hw.1
        have hw := hw.2
        exact co_zret S hr hlocks hH hE hS (mo_bool hz).1 hw dX5_isSame_62
      · have hw := hw.2 c3
        refine lv_aload_n hx hb dX5_isSame_41 rfl (lv_at hl 0 rfl) ?_
        refine lv_aload_n hx hb dX5_isSame_42 rfl (lv_at hl 1 rfl) ?_
        refine lv_iload_n hx hb dX5_isSame_43 rfl (lv_at hl 3 rfl) ?_
        refine lv_bipush (v := 24) hx hb dX5_isSame_44 (by decide) ?_
        refine lv_idiv hx hb dX5_isSame_46 (by decide) ?_
        refine lv_iload_n hx hb dX5_isSame_47 rfl (lv_at hl 3 rfl) ?_
        refine lv_bipush (v := 24) hx hb dX5_isSame_48 (by decide) ?_
        refine lv_irem hx hb dX5_isSame_50 (by decide) ?_
        refine co_calli (va_runV (As := [.ref a1, .int (x3 / 24), .int (x3 - x3 / 24 * 24)]) (rest := []) S (m5_isLike l g AD M a0 a1 (x3 / 24) (x3 - x3 / 24 * 24) _ hk_a0 hk_a1 hw) (cwV 3 hts (lw_V q557 q558 q559 q59 q560) rfl rfl rfl (by decide +kernel) ⟨Nat.le_of_ble_eq_true rfl, Nat.le_of_ble_eq_true rfl⟩) ⟨co_blind, co_recv hK hH (c := 5) (by decide) hk_a0, co_pre hK hH hA hS⟩ rfl rfl hl.1 rfl (lv_room (Nat.le_of_ble_eq_true rfl)) dX5_isSame_51 ⟨Nat.le_refl _, Nat.le_refl _⟩) hS (fun r5 M4 H locs hw hH hE6 hS => ?_)
        have hk8 := hE6.k hk_a0 (by decide)
        have hk9 := hE6.k hk_a1 (by decide)
        have hE := hE.tr hE6
        refine lv_istore_n (lv' := [(2, .int r5), (0, .ref a0), (1, .ref a1), (3, .int x3)]) hx hb dX5_isSame_54 rfl hl (by decide) rfl (fun ls hl => ?_)
        refine lv_iinc (v := x3 + 1) (lv' := [(3, .int (x3 + 1)), (2, .int r5), (0, .ref a0), (1, .ref a1)]) hx hb dX5_isSame_55 hl (k := 3) rfl rfl (by decide) rfl (fun ls hl => ?_)
        refine lv_goto (tgt := 30) hx hb dX5_isSame_58 (by decide) ?_
        exact hkb _ _ _ _ _ hw hE hk8 hk9 _ _ hH hS _ (lv_sub hl [2, 3, 1, 0] rfl)
def w5_isSame_27 (post : Int32 → Mm → Prop)  (M : Mm) (a0 : Nat) (a1 : Nat) (t0 : Int32) : Prop :=
  ∃ n, w5_isSame_30 post  n M a0 a1 t0 0
set_option maxHeartbeats 4000000 in
set_option maxRecDepth 100000 in
theorem r5_isSame_27 {p : Program} {l : Launch} {e : Env} {s : State} {m : MethodId} {args : Array Value} {below : List Frame} {meth : Method} {c : Code} {g : CG} {AD : Nat → Prop} {M0 : Mm} (S : CallFix p m c cX5_isSame 4 s args lw_all RX5) (hr : meth.sig.returnType = (some .boolean)) (hlocks : meth.locks = false) (hK : KC g s) (hA : ∀ q, s.heap.size ≤ q → AD q) {post : Int32 → Mm → Prop}  : ∀ (M : Mm) (a0 : Nat) (a1 : Nat) (t0 : Int32), w5_isSame_27 post  M a0 a1 t0 → Ext M0 M → mK M a0 = 6 → mK M a1 = 6 → ∀ (H : Heap) (locs : List Loc), HC g AD M H → va_S AD s.heap H locs → ∀ (ls : Array Slot), lv_has ls 4 [(0, .ref a0), (1, .ref a1)] → W p l e rm5_isSame s m args below meth c H locs 0 0 (MQ below (CQi g AD M0 post) args s 0 0 AD) (F0 m 27 ls [.int t0]) := by
  have hx := S.1
  have hb := S.2.1
  have hown := S.2.2.2.1
  have hts := S.2.2.2.2
  intro M a0 a1 t0 hw hE hk_a0 hk_a1 H locs hH hS ls hl
  unfold w5_isSame_27 at hw
  refine lv_istore_n (lv' := [(2, .int t0), (0, .ref a0), (1, .ref a1)]) hx hb dX5_isSame_27 rfl hl (by decide) rfl (fun ls hl => ?_)
  refine lv_iconst (v := 0) hx hb dX5_isSame_28 (by decide) ?_
  refine lv_istore_n (lv' := [(3, .int 0), (2, .int t0), (0, .ref a0), (1, .ref a1)]) hx hb dX5_isSame_29 rfl hl (by decide) rfl (fun ls hl => ?_)
  obtain ⟨n, hw⟩ := hw
  refine r5_isSame_30 S hr hlocks hK hA  n _ _ _ _ _ hw hE hk_a0 hk_a1 _ _ hH hS _ (lv_sub hl [2, 3, 1, 0] rfl)
def w5_isSame_26 (post : Int32 → Mm → Prop)  (M : Mm) (a0 : Nat) (a1 : Nat) : Prop :=
  w5_isSame_27 post M a0 a1 0
set_option maxHeartbeats 4000000 in
set_option maxRecDepth 100000 in
theorem r5_isSame_26 {p : Program} {l : Launch} {e : Env} {s : State} {m : MethodId} {args : Array Value} {below : List Frame} {meth : Method} {c : Code} {g : CG} {AD : Nat → Prop} {M0 : Mm} (S : CallFix p m c cX5_isSame 4 s args lw_all RX5) (hr : meth.sig.returnType = (some .boolean)) (hlocks : meth.locks = false) (hK : KC g s) (hA : ∀ q, s.heap.size ≤ q → AD q) {post : Int32 → Mm → Prop}  : ∀ (M : Mm) (a0 : Nat) (a1 : Nat), w5_isSame_26 post  M a0 a1 → Ext M0 M → mK M a0 = 6 → mK M a1 = 6 → ∀ (H : Heap) (locs : List Loc), HC g AD M H → va_S AD s.heap H locs → ∀ (ls : Array Slot), lv_has ls 4 [(0, .ref a0), (1, .ref a1)] → W p l e rm5_isSame s m args below meth c H locs 0 0 (MQ below (CQi g AD M0 post) args s 0 0 AD) (F0 m 26 ls []) := by
  have hx := S.1
  have hb := S.2.1
  have hown := S.2.2.2.1
  have hts := S.2.2.2.2
  intro M a0 a1 hw hE hk_a0 hk_a1 H locs hH hS ls hl
  unfold w5_isSame_26 at hw
  refine lv_iconst (v := 0) hx hb dX5_isSame_26 (by decide) ?_
  exact r5_isSame_27 S hr hlocks hK hA  _ _ _ _ hw hE hk_a0 hk_a1 _ _ hH hS _ (lv_sub hl [0, 1] rfl)
def w5_isSame (post : Int32 → Mm → Prop) (M : Mm) (a0 : Nat) (a1 : Nat) : Prop :=
  ((mI M 602 a0 0) = (mI M 602 a1 0) → ((mI M 603 a0 0) = (mI M 603 a1 0) → w5_isSame_27 post M a0 a1 1) ∧ (¬ (mI M 603 a0 0) = (mI M 603 a1 0) → w5_isSame_26 post M a0 a1)) ∧ (¬ (mI M 602 a0 0) = (mI M 602 a1 0) → w5_isSame_26 post M a0 a1)
set_option maxHeartbeats 4000000 in
set_option maxRecDepth 100000 in
theorem m5_isSame (l : Launch) (g : CG) (AD : Nat → Prop) (M : Mm) (a0 : Nat) (a1 : Nat) (post : Int32 → Mm → Prop) (hk_a0 : mK M a0 = 6) (hk_a1 : mK M a1 = 6) (hw : w5_isSame post M a0 a1) : Met l yX5_isSame (ws_ yX5_isSame cX5_isSame 4 (some .boolean)) rm5_isSame (CPc g AD M [.ref a0, .ref a1]) (CQi g AD M post) 0 0 AD := by
  refine Met.ofW (cc := cX5_isSame) (maxL := 4) (ret := (some .boolean)) (by decide) rfl ?_
  intro p e s m args below meth c s₁ B hml hv
  obtain ⟨rfl, hK, hH, hA⟩ := hv
  have hx := B.exec
  have hb := B.bytes
  have hr : meth.sig.returnType = (some .boolean) := B.returns
  have hts := atoms_spec (ws := ws_ yX5_isSame cX5_isSame 4 (some .boolean)) B.pre
  have hts : ∀ w ∈ lw_all, w.before _ s = true := fun w h => hts w (List.mem_cons_of_mem _ h)
  have hown : s.vm.findClass RX5 = some m.cls := findClass_of_methodNamed B.named
  have hlocks : meth.locks = false := B.notSynchronized
  have S : CallFix p m c cX5_isSame 4 s _ lw_all RX5 := ⟨hx, hb, hml, hown, hts⟩
  have hS : va_S AD s.heap s.heap [] := va_S.rf
  have hE : Ext M M := Ext.rf
  have hl := lv_entry ([.ref a0, .ref a1]) (n := 4) (Nat.le_of_ble_eq_true rfl)
  rw [lg_entry_eq]
  generalize (lg_sl ([.ref a0, .ref a1]) ++ List.replicate (4 - (lg_sl ([.ref a0, .ref a1])).length) Slot.unset).toArray = ls at hl ⊢
  have hl : lv_has ls 4 [(0, .ref a0), (1, .ref a1)] := hl
  unfold w5_isSame at hw
  refine lv_aload_n hx hb dX5_isSame_0 rfl (lv_at hl 0 rfl) ?_
  refine co_geti S hK hH 5 2 602 (by decide) ⟨by decide, rfl, rfl, rfl⟩ (Or.inl q154) hk_a0 dX5_isSame_1 ?_
  refine lv_aload_n hx hb dX5_isSame_4 rfl (lv_at hl 1 rfl) ?_
  refine co_geti S hK hH 5 2 602 (by decide) ⟨by decide, rfl, rfl, rfl⟩ (Or.inl q154) hk_a1 dX5_isSame_5 ?_
  refine lv_icmp_ne (tgt := 26) hx hb dX5_isSame_8 (by decide) (fun c1 => ?_) (fun c1 => ?_)
  · have hw := hw.2 c1
    exact r5_isSame_26 S hr hlocks hK hA  _ _ _ hw hE hk_a0 hk_a1 _ _ hH hS _ (lv_sub hl [0, 1] rfl)
  · have hw := hw.1 c1
    refine lv_aload_n hx hb dX5_isSame_11 rfl (lv_at hl 0 rfl) ?_
    refine co_geti S hK hH 5 3 603 (by decide) ⟨by decide, rfl, rfl, rfl⟩ (Or.inl q159) hk_a0 dX5_isSame_12 ?_
    refine lv_aload_n hx hb dX5_isSame_15 rfl (lv_at hl 1 rfl) ?_
    refine co_geti S hK hH 5 3 603 (by decide) ⟨by decide, rfl, rfl, rfl⟩ (Or.inl q159) hk_a1 dX5_isSame_16 ?_
    refine lv_icmp_ne (tgt := 26) hx hb dX5_isSame_19 (by decide) (fun c10 => ?_) (fun c10 => ?_)
    · have hw := hw.2 c10
      exact r5_isSame_26 S hr hlocks hK hA  _ _ _ hw hE hk_a0 hk_a1 _ _ hH hS _ (lv_sub hl [0, 1] rfl)
    · have hw := hw.1 c10
      refine lv_iconst (v := 1) hx hb dX5_isSame_22 (by decide) ?_
      refine lv_goto (tgt := 27) hx hb dX5_isSame_23 (by decide) ?_
      exact r5_isSame_27 S hr hlocks hK hA  _ _ _ _ hw hE hk_a0 hk_a1 _ _ hH hS _ (lv_sub hl [0, 1] rfl)
/-! FarTypewriter$Program.counted()I -/
abbrev rm6_counted : Room := { frames := 0, cells := 0, slots := 0, locals := 0 }
def w6_counted (post : Int32 → Mm → Prop) (M : Mm) (a0 : Nat) : Prop :=
  post 0 M
set_option maxHeartbeats 4000000 in
set_option maxRecDepth 100000 in
theorem m6_counted (l : Launch) (g : CG) (AD : Nat → Prop) (M : Mm) (a0 : Nat) (post : Int32 → Mm → Prop) (hw : w6_counted post M a0) : Met l yX6_counted (ws_ yX6_counted cX6_counted 1 (some .int)) rm6_counted (CPc g AD M [.ref a0]) (CQi g AD M post) 0 0 AD := by
  refine Met.ofW (cc := cX6_counted) (maxL := 1) (ret := (some .int)) (by decide) rfl ?_
  intro p e s m args below meth c s₁ B hml hv
  obtain ⟨rfl, hK, hH, hA⟩ := hv
  have hx := B.exec
  have hb := B.bytes
  have hr : meth.sig.returnType = (some .int) := B.returns
  have hts := atoms_spec (ws := ws_ yX6_counted cX6_counted 1 (some .int)) B.pre
  have hts : ∀ w ∈ lw_all, w.before _ s = true := fun w h => hts w (List.mem_cons_of_mem _ h)
  have hown : s.vm.findClass RX6 = some m.cls := findClass_of_methodNamed B.named
  have hlocks : meth.locks = false := B.notSynchronized
  have S : CallFix p m c cX6_counted 1 s _ lw_all RX6 := ⟨hx, hb, hml, hown, hts⟩
  have hS : va_S AD s.heap s.heap [] := va_S.rf
  have hE : Ext M M := Ext.rf
  have hl := lv_entry ([.ref a0]) (n := 1) (Nat.le_of_ble_eq_true rfl)
  rw [lg_entry_eq]
  generalize (lg_sl ([.ref a0]) ++ List.replicate (1 - (lg_sl ([.ref a0])).length) Slot.unset).toArray = ls at hl ⊢
  have hl : lv_has ls 1 [(0, .ref a0)] := hl
  unfold w6_counted at hw
  refine lv_iconst (v := 0) hx hb dX6_counted_0 (by decide) ?_
  exact co_iret S hr hlocks hH hE hS hw dX6_counted_1
