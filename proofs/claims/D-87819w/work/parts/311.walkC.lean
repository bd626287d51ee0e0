/-! FarTypewriter.sendsNear()V -/
abbrev rm0_sendsNear : Room := { frames := 3, cells := 0, slots := 0, locals := 243 }
def b0_sendsNear_72 (post : Mm → Prop)  (kb : Mm → Nat → Int32 → Prop) (M : Mm) (a0 : Nat) (x1 : Int32) : Prop :=
  ((mI M 107 a0 0) ≤ x1 → ∀ M44 : Mm, M44 = sI M 109 a0 0 (mI M 107 a0 0) → (∀ M47 : Mm, M47 = sI M44 110 a0 0 (mI M44 102 a0 0) → (∀ M50 : Mm, M50 = sI M47 113 a0 0 0 → (w0_sends (fun (M53 : Mm) => post M53) M50 a0 0)))) ∧ (¬ (mI M 107 a0 0) ≤ x1 → mK M (mP M 105 a0 0) = 3 ∧ (mK M (mP M 106 a0 0) = 23 ∧ (vp_in x1 1000 ∧ (w2_put (fun (M61 : Mm) => kb M61 a0 (x1 + 1)) M (mP M 105 a0 0) (mI M 23 (mP M 106 a0 0) x1.toNatClampNeg)))))
def w0_sendsNear_72 (post : Mm → Prop)  : Nat → Mm → Nat → Int32 → Prop
  | 0 => fun _ _ _ => False
  | n + 1 => b0_sendsNear_72 post  (w0_sendsNear_72 post  n)
set_option maxHeartbeats 4000000 in
set_option maxRecDepth 100000 in
theorem r0_sendsNear_72 {p : Program} {l : Launch} {e : Env} {s : State} {m : MethodId} {args : Array Value} {below : List Frame} {meth : Method} {c : Code} {g : CG} {AD : Nat → Prop} {M0 : Mm} (S : CallFix p m c cX0_sendsNear 2 s args lw_all RX0) (hr : meth.sig.returnType = none) (hlocks : meth.locks = false) (hK : KC g s) (hA : ∀ q, s.heap.size ≤ q → AD q) {post : Mm → Prop}  : ∀ n : Nat, ∀ (M : Mm) (a0 : Nat) (x1 : Int32), w0_sendsNear_72 post  n M a0 x1 → Ext M0 M → mK M a0 = 1 → ∀ (H : Heap) (locs : List Loc), HC g AD M H → va_S AD s.heap H locs → ∀ (ls : Array Slot), lv_has ls 2 [(0, .ref a0), (1, .int x1)] → W p l e rm0_sendsNear s m args below meth c H locs 0 0 (MQ below (CQv g AD M0 post) args s 0 0 AD) (F0 m 72 ls []) := by
  have hx := S.1
  have hb := S.2.1
  have hown := S.2.2.2.1
  have hts := S.2.2.2.2
  intro n
  induction n with
  | zero =>
    intro M a0 x1 hw
    exact hw.elim
  | succ n hkb =>
    intro M a0 x1 hw hE hk_a0 H locs hH hS ls hl
    unfold w0_sendsNear_72 b0_sendsNear_72 at hw
    refine lv_iload_n hx hb dX0_sendsNear_72 rfl (lv_at hl 1 rfl) ?_
    refine lv_aload_n hx hb dX0_sendsNear_73 rfl (lv_at hl 0 rfl) ?_
    refine co_geti S hK hH 0 7 107 (by decide) ⟨by decide, rfl, rfl, rfl⟩ (Or.inl q268) hk_a0 dX0_sendsNear_74 ?_
    refine lv_icmp_ge (tgt := 99) hx hb dX0_sendsNear_77 (by decide) (fun c43 => ?_) (fun c43 => ?_)
    · have hw := hw.1 c43
      refine lv_aload_n hx hb dX0_sendsNear_99 rfl (lv_at hl 0 rfl) ?_
      refine lv_aload_n hx hb dX0_sendsNear_100 rfl (lv_at hl 0 rfl) ?_
      refine co_geti S hK hH 0 7 107 (by decide) ⟨by decide, rfl, rfl, rfl⟩ (Or.inl q268) hk_a0 dX0_sendsNear_101 ?_
      refine co_puti S hK hH hS 0 9 109 (by decide) ⟨by decide, rfl, rfl, rfl, rfl⟩ (Or.inl q270) hk_a0 ⟨rfl, rfl⟩ dX0_sendsNear_104 (fun H locs hH hS => ?_)
      obtain ⟨M44, eM44⟩ : ∃ y : Mm, y = sI M 109 a0 0 (mI M 107 a0 0) := ⟨_, rfl⟩
      have hw := hw M44 eM44
      rw [← eM44] at hH
      have hE45 : Ext M M44 := by rw [eM44]; exact Ext.sI
      have hk46 := hE45.k hk_a0 (by decide)
      have hE := hE.tr hE45
      refine lv_aload_n hx hb dX0_sendsNear_107 rfl (lv_at hl 0 rfl) ?_
      refine lv_aload_n hx hb dX0_sendsNear_108 rfl (lv_at hl 0 rfl) ?_
      refine co_geti S hK hH 0 2 102 (by decide) ⟨by decide, rfl, rfl, rfl⟩ (Or.inl q263) hk46 dX0_sendsNear_109 ?_
      refine co_puti S hK hH hS 0 10 110 (by decide) ⟨by decide, rfl, rfl, rfl, rfl⟩ (Or.inl q271) hk46 ⟨rfl, rfl⟩ dX0_sendsNear_112 (fun H locs hH hS => ?_)
      obtain ⟨M47, eM47⟩ : ∃ y : Mm, y = sI M44 110 a0 0 (mI M44 102 a0 0) := ⟨_, rfl⟩
      have hw := hw M47 eM47
      rw [← eM47] at hH
      have hE48 : Ext M44 M47 := by rw [eM47]; exact Ext.sI
      have hk49 := hE48.k hk46 (by decide)
      have hE := hE.tr hE48
      refine lv_aload_n hx hb dX0_sendsNear_115 rfl (lv_at hl 0 rfl) ?_
      refine lv_iconst (v := 0) hx hb dX0_sendsNear_116 (by decide) ?_
      refine co_puti S hK hH hS 0 13 113 (by decide) ⟨by decide, rfl, rfl, rfl, rfl⟩ (Or.inl q274) hk49 ⟨rfl, rfl⟩ dX0_sendsNear_117 (fun H locs hH hS => ?_)
      obtain ⟨M50, eM50⟩ : ∃ y : Mm, y = sI M47 113 a0 0 0 := ⟨_, rfl⟩
      have hw := hw M50 eM50
      rw [← eM50] at hH
      have hE51 : Ext M47 M50 := by rw [eM50]; exact Ext.sI
      have hk52 := hE51.k hk49 (by decide)
      have hE := hE.tr hE51
      refine lv_aload_n hx hb dX0_sendsNear_120 rfl (lv_at hl 0 rfl) ?_
      refine lv_iconst (v := 0) hx hb dX0_sendsNear_121 (by decide) ?_
      refine co_callv (va_runV (As := [.int 0]) (rest := []) S (m0_sends l g AD M50 a0 0 _ hk52 hw) (cwV 1 hts (lw_V q594 q596 qs7 q54 q597) rfl rfl rfl (by decide +kernel) ⟨Nat.le_of_ble_eq_true rfl, Nat.le_of_ble_eq_true rfl⟩) ⟨co_blind, co_recv hK hH (c := 0) (by decide) hk52, co_pre hK hH hA hS⟩ rfl rfl hl.1 rfl (lv_room (Nat.le_of_ble_eq_true rfl)) dX0_sendsNear_122 ⟨Nat.le_refl _, Nat.le_refl _⟩) hS (fun M53 H locs hw hH hE55 hS => ?_)
      have hk57 := hE55.k hk52 (by decide)
      have hE := hE.tr hE55
      exact co_vret S hr hlocks hH hE hS hw dX0_sendsNear_125
    · have hw := hw.2 c43
      refine lv_aload_n hx hb dX0_sendsNear_80 rfl (lv_at hl 0 rfl) ?_
      have hk58 := hw.1
      have hw := hw.2
      refine co_getr S hK hH 0 5 105 (by decide) ⟨by decide, rfl, rfl, rfl⟩ (Or.inl q266) hk_a0 (by rw [hk58]; decide) dX0_sendsNear_81 ?_
      refine lv_aload_n hx hb dX0_sendsNear_84 rfl (lv_at hl 0 rfl) ?_
      have hk59 := hw.1
      have hw := hw.2
      refine co_getr S hK hH 0 6 106 (by decide) ⟨by decide, rfl, rfl, rfl⟩ (Or.inl q267) hk_a0 (by rw [hk59]; decide) dX0_sendsNear_85 ?_
      refine lv_iload_n hx hb dX0_sendsNear_88 rfl (lv_at hl 1 rfl) ?_
      have hin60 := hw.1
      have hw := hw.2
      refine co_bald S hK hH 3 23 ⟨by decide, rfl, rfl⟩ hk59 hin60 dX0_sendsNear_89 ?_
      refine co_callv (va_runV (As := [.int (mI M 23 (mP M 106 a0 0) x1.toNatClampNeg)]) (rest := []) S (m2_put l g AD M (mP M 105 a0 0) (mI M 23 (mP M 106 a0 0) x1.toNatClampNeg) _ hk58 hw) (cwV 1 hts (lw_V q569 q570 q571 q56 q572) rfl rfl rfl (by decide +kernel) ⟨Nat.le_of_ble_eq_true rfl, Nat.le_of_ble_eq_true rfl⟩) ⟨co_blind, co_recv hK hH (c := 2) (by decide) hk58, co_pre hK hH hA hS⟩ rfl rfl hl.1 rfl (lv_room (Nat.le_of_ble_eq_true rfl)) dX0_sendsNear_90 ⟨Nat.le_refl _, Nat.le_refl _⟩) hS (fun M61 H locs hw hH hE63 hS => ?_)
      have hk65 := hE63.k hk_a0 (by decide)
      have hE := hE.tr hE63
      refine lv_iinc (v := x1 + 1) (lv' := [(1, .int (x1 + 1)), (0, .ref a0)]) hx hb dX0_sendsNear_93 hl (k := 1) rfl rfl (by decide) rfl (fun ls hl => ?_)
      refine lv_goto (tgt := 72) hx hb dX0_sendsNear_96 (by decide) ?_
      exact hkb _ _ _ hw hE hk65 _ _ hH hS _ (lv_sub hl [1, 0] rfl)
def w0_sendsNear (post : Mm → Prop) (M : Mm) (a0 : Nat) : Prop :=
  mK M (mP M 105 a0 0) = 3 ∧ (∀ M2 : Mm, M2 = sI M 301 (mP M 105 a0 0) 0 0 → (mK M2 (mP M2 105 a0 0) = 3 ∧ (w2_put (fun (M6 : Mm) => mK M6 (mP M6 105 a0 0) = 3 ∧ (w2_put (fun (M12 : Mm) => mK M12 (mP M12 105 a0 0) = 3 ∧ (w2_two (fun (M18 : Mm) => mK M18 (mP M18 105 a0 0) = 3 ∧ (w2_two (fun (M24 : Mm) => mK M24 (mP M24 105 a0 0) = 3 ∧ (mK M24 (mP M24 114 a0 0) = 4 ∧ (w3_newest (fun (r32 : Nat) (M31 : Mm) => w2_two (fun (M37 : Mm) => ∀ y1_42 : Int32, y1_42 = mI M37 108 a0 0 → (∃ n, w0_sendsNear_72 post  n M37 a0 y1_42)) M31 (mP M24 105 a0 0) (mI M31 501 r32 0)) M24 (mP M24 114 a0 0)))) M18 (mP M18 105 a0 0) (mI M18 107 a0 0))) M12 (mP M12 105 a0 0) (mI M12 108 a0 0))) M6 (mP M6 105 a0 0) (mI M6 111 a0 0))) M2 (mP M2 105 a0 0) 75)))
set_option maxHeartbeats 4000000 in
set_option maxRecDepth 100000 in
theorem m0_sendsNear (l : Launch) (g : CG) (AD : Nat → Prop) (M : Mm) (a0 : Nat) (post : Mm → Prop) (hk_a0 : mK M a0 = 1) (hw : w0_sendsNear post M a0) : Met l yX0_sendsNear (ws_ yX0_sendsNear cX0_sendsNear 2 none) rm0_sendsNear (CPc g AD M [.ref a0]) (CQv g AD M post) 0 0 AD := by
  refine Met.ofW (cc := cX0_sendsNear) (maxL := 2) (ret := none) (by decide) rfl ?_
  intro p e s m args below meth c s₁ B hml hv
  obtain ⟨rfl, hK, hH, hA⟩ := hv
  have hx := B.exec
  have hb := B.bytes
  have hr : meth.sig.returnType = none := B.returns
  have hts := atoms_spec (ws := ws_ yX0_sendsNear cX0_sendsNear 2 none) B.pre
  have hts : ∀ w ∈ lw_all, w.before _ s = true := fun w h => hts w (List.mem_cons_of_mem _ h)
  have hown : s.vm.findClass RX0 = some m.cls := findClass_of_methodNamed B.named
  have hlocks : meth.locks = false := B.notSynchronized
  have S : CallFix p m c cX0_sendsNear 2 s _ lw_all RX0 := ⟨hx, hb, hml, hown, hts⟩
  have hS : va_S AD s.heap s.heap [] := va_S.rf
  have hE : Ext M M := Ext.rf
  have hl := lv_entry ([.ref a0]) (n := 2) (Nat.le_of_ble_eq_true rfl)
  rw [lg_entry_eq]
  generalize (lg_sl ([.ref a0]) ++ List.replicate (2 - (lg_sl ([.ref a0])).length) Slot.unset).toArray = ls at hl ⊢
  have hl : lv_has ls 2 [(0, .ref a0)] := hl
  unfold w0_sendsNear at hw
  refine lv_aload_n hx hb dX0_sendsNear_0 rfl (lv_at hl 0 rfl) ?_
  have hk1 := hw.1
  have hw := hw.2
  refine co_getr S hK hH 0 5 105 (by decide) ⟨by decide, rfl, rfl, rfl⟩ (Or.inl q266) hk_a0 (by rw [hk1]; decide) dX0_sendsNear_1 ?_
  refine lv_iconst (v := 0) hx hb dX0_sendsNear_4 (by decide) ?_
  refine co_puti S hK hH hS 2 1 301 (by decide) ⟨by decide, rfl, rfl, rfl, rfl⟩ (Or.inr ⟨_, q100⟩) hk1 ⟨rfl, rfl⟩ dX0_sendsNear_5 (fun H locs hH hS => ?_)
  obtain ⟨M2, eM2⟩ : ∃ y : Mm, y = sI M 301 (mP M 105 a0 0) 0 0 := ⟨_, rfl⟩
  have hw := hw M2 eM2
  rw [← eM2] at hH
  have hE3 : Ext M M2 := by rw [eM2]; exact Ext.sI
  have hk4 := hE3.k hk_a0 (by decide)
  have hE := hE.tr hE3
  refine lv_aload_n hx hb dX0_sendsNear_8 rfl (lv_at hl 0 rfl) ?_
  have hk5 := hw.1
  have hw := hw.2
  refine co_getr S hK hH 0 5 105 (by decide) ⟨by decide, rfl, rfl, rfl⟩ (Or.inl q266) hk4 (by rw [hk5]; decide) dX0_sendsNear_9 ?_
  refine lv_bipush (v := 75) hx hb dX0_sendsNear_12 (by decide) ?_
  refine co_callv (va_runV (As := [.int 75]) (rest := []) S (m2_put l g AD M2 (mP M2 105 a0 0) 75 _ hk5 hw) (cwV 1 hts (lw_V q569 q570 q571 q56 q572) rfl rfl rfl (by decide +kernel) ⟨Nat.le_of_ble_eq_true rfl, Nat.le_of_ble_eq_true rfl⟩) ⟨co_blind, co_recv hK hH (c := 2) (by decide) hk5, co_pre hK hH hA hS⟩ rfl rfl hl.1 rfl (lv_room (Nat.le_of_ble_eq_true rfl)) dX0_sendsNear_14 ⟨Nat.le_refl _, Nat.le_refl _⟩) hS (fun M6 H locs hw hH hE8 hS => ?_)
  have hk10 := hE8.k hk4 (by decide)
  have hE := hE.tr hE8
  refine lv_aload_n hx hb dX0_sendsNear_17 rfl (lv_at hl 0 rfl) ?_
  have hk11 := hw.1
  have hw := hw.2
  refine co_getr S hK hH 0 5 105 (by decide) ⟨by decide, rfl, rfl, rfl⟩ (Or.inl q266) hk10 (by rw [hk11]; decide) dX0_sendsNear_18 ?_
  refine lv_aload_n hx hb dX0_sendsNear_21 rfl (lv_at hl 0 rfl) ?_
  refine co_geti S hK hH 0 11 111 (by decide) ⟨by decide, rfl, rfl, rfl⟩ (Or.inl q272) hk10 dX0_sendsNear_22 ?_
  refine co_callv (va_runV (As := [.int (mI M6 111 a0 0)]) (rest := []) S (m2_put l g AD M6 (mP M6 105 a0 0) (mI M6 111 a0 0) _ hk11 hw) (cwV 1 hts (lw_V q569 q570 q571 q56 q572) rfl rfl rfl (by decide +kernel) ⟨Nat.le_of_ble_eq_true rfl, Nat.le_of_ble_eq_true rfl⟩) ⟨co_blind, co_recv hK hH (c := 2) (by decide) hk11, co_pre hK hH hA hS⟩ rfl rfl hl.1 rfl (lv_room (Nat.le_of_ble_eq_true rfl)) dX0_sendsNear_25 ⟨Nat.le_refl _, Nat.le_refl _⟩) hS (fun M12 H locs hw hH hE14 hS => ?_)
  have hk16 := hE14.k hk10 (by decide)
  have hE := hE.tr hE14
  refine lv_aload_n hx hb dX0_sendsNear_28 rfl (lv_at hl 0 rfl) ?_
  have hk17 := hw.1
  have hw := hw.2
  refine co_getr S hK hH 0 5 105 (by decide) ⟨by decide, rfl, rfl, rfl⟩ (Or.inl q266) hk16 (by rw [hk17]; decide) dX0_sendsNear_29 ?_
  refine lv_aload_n hx hb dX0_sendsNear_32 rfl (lv_at hl 0 rfl) ?_
  refine co_geti S hK hH 0 8 108 (by decide) ⟨by decide, rfl, rfl, rfl⟩ (Or.inl q269) hk16 dX0_sendsNear_33 ?_
  refine co_callv (va_runV (As := [.int (mI M12 108 a0 0)]) (rest := []) S (m2_two l g AD M12 (mP M12 105 a0 0) (mI M12 108 a0 0) _ hk17 hw) (cwV 1 hts (lw_V q573 q574 q575 q56 q576) rfl rfl rfl (by decide +kernel) ⟨Nat.le_of_ble_eq_true rfl, Nat.le_of_ble_eq_true rfl⟩) ⟨co_blind, co_recv hK hH (c := 2) (by decide) hk17, co_pre hK hH hA hS⟩ rfl rfl hl.1 rfl (lv_room (Nat.le_of_ble_eq_true rfl)) dX0_sendsNear_36 ⟨Nat.le_refl _, Nat.le_refl _⟩) hS (fun M18 H locs hw hH hE20 hS => ?_)
  have hk22 := hE20.k hk16 (by decide)
  have hE := hE.tr hE20
  refine lv_aload_n hx hb dX0_sendsNear_39 rfl (lv_at hl 0 rfl) ?_
  have hk23 := hw.1
  have hw := hw.2
  refine co_getr S hK hH 0 5 105 (by decide) ⟨by decide, rfl, rfl, rfl⟩ (Or.inl q266) hk22 (by rw [hk23]; decide) dX0_sendsNear_40 ?_
  refine lv_aload_n hx hb dX0_sendsNear_43 rfl (lv_at hl 0 rfl) ?_
  refine co_geti S hK hH 0 7 107 (by decide) ⟨by decide, rfl, rfl, rfl⟩ (Or.inl q268) hk22 dX0_sendsNear_44 ?_
  refine co_callv (va_runV (As := [.int (mI M18 107 a0 0)]) (rest := []) S (m2_two l g AD M18 (mP M18 105 a0 0) (mI M18 107 a0 0) _ hk23 hw) (cwV 1 hts (lw_V q573 q574 q575 q56 q576) rfl rfl rfl (by decide +kernel) ⟨Nat.le_of_ble_eq_true rfl, Nat.le_of_ble_eq_true rfl⟩) ⟨co_blind, co_recv hK hH (c := 2) (by decide) hk23, co_pre hK hH hA hS⟩ rfl rfl hl.1 rfl (lv_room (Nat.le_of_ble_eq_true rfl)) dX0_sendsNear_47 ⟨Nat.le_refl _, Nat.le_refl _⟩) hS (fun M24 H locs hw hH hE26 hS => ?_)
  have hk28 := hE26.k hk22 (by decide)
  have hE := hE.tr hE26
  refine lv_aload_n hx hb dX0_sendsNear_50 rfl (lv_at hl 0 rfl) ?_
  have hk29 := hw.1
  have hw := hw.2
  refine co_getr S hK hH 0 5 105 (by decide) ⟨by decide, rfl, rfl, rfl⟩ (Or.inl q266) hk28 (by rw [hk29]; decide) dX0_sendsNear_51 ?_
  refine lv_aload_n hx hb dX0_sendsNear_54 rfl (lv_at hl 0 rfl) ?_
  have hk30 := hw.1
  have hw := hw.2
  refine co_getr S hK hH 0 14 114 (by decide) ⟨by decide, rfl, rfl, rfl⟩ (Or.inl q275) hk28 (by rw [hk30]; decide) dX0_sendsNear_55 ?_
  refine co_callr (va_runV (As := []) (rest := [.ref (mP M24 105 a0 0)]) S (m3_newest l g AD M24 (mP M24 114 a0 0) _ hk30 hw) (cwV 0 hts (lw_V q536 q258 q259 q57 q260) rfl rfl rfl (by decide +kernel) ⟨Nat.le_of_ble_eq_true rfl, Nat.le_of_ble_eq_true rfl⟩) ⟨co_blind, co_recv hK hH (c := 3) (by decide) hk30, co_pre hK hH hA hS⟩ rfl rfl hl.1 rfl (lv_room (Nat.le_of_ble_eq_true rfl)) dX0_sendsNear_58 ⟨Nat.le_refl _, Nat.le_refl _⟩) hS (fun r32 M31 H locs hw hH hE33 hk34 hS => ?_)
  have hk35 := hE33.k hk28 (by decide)
  have hk36 := hE33.k hk29 (by decide)
  have hE := hE.tr hE33
  have hk34 : mK M31 r32 = 5 := hk34
  refine co_geti S hK hH 4 1 501 (by decide) ⟨by decide, rfl, rfl, rfl⟩ (Or.inr ⟨_, q175⟩) hk34 dX0_sendsNear_61 ?_
  refine co_callv (va_runV (As := [.int (mI M31 501 r32 0)]) (rest := []) S (m2_two l g AD M31 (mP M24 105 a0 0) (mI M31 501 r32 0) _ hk36 hw) (cwV 1 hts (lw_V q573 q574 q575 q56 q576) rfl rfl rfl (by decide +kernel) ⟨Nat.le_of_ble_eq_true rfl, Nat.le_of_ble_eq_true rfl⟩) ⟨co_blind, co_recv hK hH (c := 2) (by decide) hk36, co_pre hK hH hA hS⟩ rfl rfl hl.1 rfl (lv_room (Nat.le_of_ble_eq_true rfl)) dX0_sendsNear_64 ⟨Nat.le_refl _, Nat.le_refl _⟩) hS (fun M37 H locs hw hH hE39 hS => ?_)
  have hk41 := hE39.k hk35 (by decide)
  have hE := hE.tr hE39
  refine lv_aload_n hx hb dX0_sendsNear_67 rfl (lv_at hl 0 rfl) ?_
  refine co_geti S hK hH 0 8 108 (by decide) ⟨by decide, rfl, rfl, rfl⟩ (Or.inl q269) hk41 dX0_sendsNear_68 ?_
  refine lv_topi (fun y1_42 ey1_42 => ?_)
  have hw := hw y1_42 ey1_42
  refine lv_istore_n (lv' := [(1, .int y1_42), (0, .ref a0)]) hx hb dX0_sendsNear_71 rfl hl (by decide) rfl (fun ls hl => ?_)
  obtain ⟨n, hw⟩ := hw
  refine r0_sendsNear_72 S hr hlocks hK hA  n _ _ _ hw hE hk41 _ _ hH hS _ (lv_sub hl [1, 0] rfl)
/-! FarTypewriter.tick()I -/
abbrev rm0_tick : Room := { frames := 6, cells := 0, slots := 0, locals := 302 }
def w0_tick_226 (post : Int32 → Mm → Prop)  (M : Mm) (a0 : Nat) (x1 : Int32) : Prop :=
  w0_sendsNear (fun (M27 : Mm) => mK M27 (mP M27 103 a0 0) = 24 ∧ (vp_in 0 10 ∧ (post ((mI M27 24 (mP M27 103 a0 0) (0 : Int32).toNatClampNeg) - x1) M27))) M a0
set_option maxHeartbeats 4000000 in
set_option maxRecDepth 100000 in
theorem r0_tick_226 {p : Program} {l : Launch} {e : Env} {s : State} {m : MethodId} {args : Array Value} {below : List Frame} {meth : Method} {c : Code} {g : CG} {AD : Nat → Prop} {M0 : Mm} (S : CallFix p m c cX0_tick 4 s args lw_all RX0) (hr : meth.sig.returnType = (some .int)) (hlocks : meth.locks = false) (hK : KC g s) (hA : ∀ q, s.heap.size ≤ q → AD q) {post : Int32 → Mm → Prop}  : ∀ (M : Mm) (a0 : Nat) (x1 : Int32), w0_tick_226 post  M a0 x1 → Ext M0 M → mK M a0 = 1 → ∀ (H : Heap) (locs : List Loc), HC g AD M H → va_S AD s.heap H locs → ∀ (ls : Array Slot), lv_has ls 4 [(0, .ref a0), (1, .int x1)] → W p l e rm0_tick s m args below meth c H locs 0 0 (MQ below (CQi g AD M0 post) args s 0 0 AD) (F0 m 226 ls []) := by
  have hx := S.1
  have hb := S.2.1
  have hown := S.2.2.2.1
  have hts := S.2.2.2.2
  intro M a0 x1 hw hE hk_a0 H locs hH hS ls hl
  unfold w0_tick_226 at hw
  refine lv_aload_n hx hb dX0_tick_226 rfl (lv_at hl 0 rfl) ?_
  refine co_callv (va_runV (As := []) (rest := []) S (m0_sendsNear l g AD M a0 _ hk_a0 hw) (cwV 0 hts (lw_V q612 q614 qs8 q54 q615) rfl rfl rfl (by decide +kernel) ⟨Nat.le_of_ble_eq_true rfl, Nat.le_of_ble_eq_true rfl⟩) ⟨co_blind, co_recv hK hH (c := 0) (by decide) hk_a0, co_pre hK hH hA hS⟩ rfl rfl hl.1 rfl (lv_room (Nat.le_of_ble_eq_true rfl)) dX0_tick_227 ⟨Nat.le_refl _, Nat.le_refl _⟩) hS (fun M27 H locs hw hH hE29 hS => ?_)
  have hk31 := hE29.k hk_a0 (by decide)
  have hE := hE.tr hE29
  refine lv_aload_n hx hb dX0_tick_230 rfl (lv_at hl 0 rfl) ?_
  have hk32 := hw.1
  have hw := hw.2
  refine co_getr S hK hH 0 3 103 (by decide) ⟨by decide, rfl, rfl, rfl⟩ (Or.inl q264) hk31 (by rw [hk32]; decide) dX0_tick_231 ?_
  refine lv_iconst (v := 0) hx hb dX0_tick_234 (by decide) ?_
  have hin33 := hw.1
  have hw := hw.2
  refine co_iald S hK hH 4 24 ⟨by decide, rfl, rfl⟩ hk32 hin33 dX0_tick_235 ?_
  refine lv_iload_n hx hb dX0_tick_236 rfl (lv_at hl 1 rfl) ?_
  refine lv_isub hx hb dX0_tick_237 ?_
  exact co_iret S hr hlocks hH hE hS hw dX0_tick_238
def w0_tick_216 (post : Int32 → Mm → Prop)  (M : Mm) (a0 : Nat) (x1 : Int32) (x3 : Int32) : Prop :=
  (x3 < ((4 : Int32) * (mI M 101 a0 0)) → mK M (mP M 103 a0 0) = 24 ∧ (vp_in 0 10 ∧ (post ((mI M 24 (mP M 103 a0 0) (0 : Int32).toNatClampNeg) - x1) M))) ∧ (¬ x3 < ((4 : Int32) * (mI M 101 a0 0)) → w0_tick_226 post M a0 x1)
set_option maxHeartbeats 4000000 in
set_option maxRecDepth 100000 in
theorem r0_tick_216 {p : Program} {l : Launch} {e : Env} {s : State} {m : MethodId} {args : Array Value} {below : List Frame} {meth : Method} {c : Code} {g : CG} {AD : Nat → Prop} {M0 : Mm} (S : CallFix p m c cX0_tick 4 s args lw_all RX0) (hr : meth.sig.returnType = (some .int)) (hlocks : meth.locks = false) (hK : KC g s) (hA : ∀ q, s.heap.size ≤ q → AD q) {post : Int32 → Mm → Prop}  : ∀ (M : Mm) (a0 : Nat) (x1 : Int32) (x3 : Int32), w0_tick_216 post  M a0 x1 x3 → Ext M0 M → mK M a0 = 1 → ∀ (H : Heap) (locs : List Loc), HC g AD M H → va_S AD s.heap H locs → ∀ (ls : Array Slot), lv_has ls 4 [(0, .ref a0), (1, .int x1), (3, .int x3)] → W p l e rm0_tick s m args below meth c H locs 0 0 (MQ below (CQi g AD M0 post) args s 0 0 AD) (F0 m 216 ls []) := by
  have hx := S.1
  have hb := S.2.1
  have hown := S.2.2.2.1
  have hts := S.2.2.2.2
  intro M a0 x1 x3 hw hE hk_a0 H locs hH hS ls hl
  unfold w0_tick_216 at hw
  refine lv_iload_n hx hb dX0_tick_216 rfl (lv_at hl 2 rfl) ?_
  refine lv_iconst (v := 4) hx hb dX0_tick_217 (by decide) ?_
  refine lv_aload_n hx hb dX0_tick_218 rfl (lv_at hl 0 rfl) ?_
  refine co_geti S hK hH 0 1 101 (by decide) ⟨by decide, rfl, rfl, rfl⟩ (Or.inl q262) hk_a0 dX0_tick_219 ?_
  refine lv_imul hx hb dX0_tick_222 ?_
  refine lv_icmp_lt (tgt := 230) hx hb dX0_tick_223 (by decide) (fun c35 => ?_) (fun c35 => ?_)
  · have hw := hw.1 c35
    refine lv_aload_n hx hb dX0_tick_230 rfl (lv_at hl 0 rfl) ?_
    have hk36 := hw.1
    have hw := hw.2
    refine co_getr S hK hH 0 3 103 (by decide) ⟨by decide, rfl, rfl, rfl⟩ (Or.inl q264) hk_a0 (by rw [hk36]; decide) dX0_tick_231 ?_
    refine lv_iconst (v := 0) hx hb dX0_tick_234 (by decide) ?_
    have hin37 := hw.1
    have hw := hw.2
    refine co_iald S hK hH 4 24 ⟨by decide, rfl, rfl⟩ hk36 hin37 dX0_tick_235 ?_
    refine lv_iload_n hx hb dX0_tick_236 rfl (lv_at hl 1 rfl) ?_
    refine lv_isub hx hb dX0_tick_237 ?_
    exact co_iret S hr hlocks hH hE hS hw dX0_tick_238
  · have hw := hw.2 c35
    exact r0_tick_226 S hr hlocks hK hA  _ _ _ hw hE hk_a0 _ _ hH hS _ (lv_sub hl [0, 1] rfl)
def w0_tick_197 (post : Int32 → Mm → Prop)  (M : Mm) (a0 : Nat) (x1 : Int32) (x3 : Int32) : Prop :=
  ((mI M 107 a0 0) ≤ (mI M 108 a0 0) → w0_tick_216 post M a0 x1 x3) ∧ (¬ (mI M 107 a0 0) ≤ (mI M 108 a0 0) → ((mI M 101 a0 0) ≤ x3 → w0_tick_226 post M a0 x1) ∧ (¬ (mI M 101 a0 0) ≤ x3 → w0_tick_216 post M a0 x1 x3))
set_option maxHeartbeats 4000000 in
set_option maxRecDepth 100000 in
theorem r0_tick_197 {p : Program} {l : Launch} {e : Env} {s : State} {m : MethodId} {args : Array Value} {below : List Frame} {meth : Method} {c : Code} {g : CG} {AD : Nat → Prop} {M0 : Mm} (S : CallFix p m c cX0_tick 4 s args lw_all RX0) (hr : meth.sig.returnType = (some .int)) (hlocks : meth.locks = false) (hK : KC g s) (hA : ∀ q, s.heap.size ≤ q → AD q) {post : Int32 → Mm → Prop}  : ∀ (M : Mm) (a0 : Nat) (x1 : Int32) (x3 : Int32), w0_tick_197 post  M a0 x1 x3 → Ext M0 M → mK M a0 = 1 → ∀ (H : Heap) (locs : List Loc), HC g AD M H → va_S AD s.heap H locs → ∀ (ls : Array Slot), lv_has ls 4 [(0, .ref a0), (1, .int x1), (3, .int x3)] → W p l e rm0_tick s m args below meth c H locs 0 0 (MQ below (CQi g AD M0 post) args s 0 0 AD) (F0 m 197 ls []) := by
  have hx := S.1
  have hb := S.2.1
  have hown := S.2.2.2.1
  have hts := S.2.2.2.2
  intro M a0 x1 x3 hw hE hk_a0 H locs hH hS ls hl
  unfold w0_tick_197 at hw
  refine lv_aload_n hx hb dX0_tick_197 rfl (lv_at hl 0 rfl) ?_
  refine co_geti S hK hH 0 8 108 (by decide) ⟨by decide, rfl, rfl, rfl⟩ (Or.inl q269) hk_a0 dX0_tick_198 ?_
  refine lv_aload_n hx hb dX0_tick_201 rfl (lv_at hl 0 rfl) ?_
  refine co_geti S hK hH 0 7 107 (by decide) ⟨by decide, rfl, rfl, rfl⟩ (Or.inl q268) hk_a0 dX0_tick_202 ?_
  refine lv_icmp_ge (tgt := 216) hx hb dX0_tick_205 (by decide) (fun c34 => ?_) (fun c34 => ?_)
  · have hw := hw.1 c34
    exact r0_tick_216 S hr hlocks hK hA  _ _ _ _ hw hE hk_a0 _ _ hH hS _ (lv_sub hl [0, 1, 2] rfl)
  · have hw := hw.2 c34
    refine lv_iload_n hx hb dX0_tick_208 rfl (lv_at hl 2 rfl) ?_
    refine lv_aload_n hx hb dX0_tick_209 rfl (lv_at hl 0 rfl) ?_
    refine co_geti S hK hH 0 1 101 (by decide) ⟨by decide, rfl, rfl, rfl⟩ (Or.inl q262) hk_a0 dX0_tick_210 ?_
    refine lv_icmp_ge (tgt := 226) hx hb dX0_tick_213 (by decide) (fun c38 => ?_) (fun c38 => ?_)
    · have hw := hw.1 c38
      exact r0_tick_226 S hr hlocks hK hA  _ _ _ hw hE hk_a0 _ _ hH hS _ (lv_sub hl [0, 1] rfl)
    · have hw := hw.2 c38
      exact r0_tick_216 S hr hlocks hK hA  _ _ _ _ hw hE hk_a0 _ _ hH hS _ (lv_sub hl [0, 1, 2] rfl)
def w0_tick_189 (post : Int32 → Mm → Prop)  (M : Mm) (a0 : Nat) (x1 : Int32) (x3 : Int32) : Prop :=
  ((mI M 100 a0 0) ≤ x3 → w0_tick_226 post M a0 x1) ∧ (¬ (mI M 100 a0 0) ≤ x3 → w0_tick_197 post M a0 x1 x3)
set_option maxHeartbeats 4000000 in
set_option maxRecDepth 100000 in
theorem r0_tick_189 {p : Program} {l : Launch} {e : Env} {s : State} {m : MethodId} {args : Array Value} {below : List Frame} {meth : Method} {c : Code} {g : CG} {AD : Nat → Prop} {M0 : Mm} (S : CallFix p m c cX0_tick 4 s args lw_all RX0) (hr : meth.sig.returnType = (some .int)) (hlocks : meth.locks = false) (hK : KC g s) (hA : ∀ q, s.heap.size ≤ q → AD q) {post : Int32 → Mm → Prop}  : ∀ (M : Mm) (a0 : Nat) (x1 : Int32) (x3 : Int32), w0_tick_189 post  M a0 x1 x3 → Ext M0 M → mK M a0 = 1 → ∀ (H : Heap) (locs : List Loc), HC g AD M H → va_S AD s.heap H locs → ∀ (ls : Array Slot), lv_has ls 4 [(0, .ref a0), (1, .int x1), (3, .int x3)] → W p l e rm0_tick s m args below meth c H locs 0 0 (MQ below (CQi g AD M0 post) args s 0 0 AD) (F0 m 189 ls []) := by
  have hx := S.1
  have hb := S.2.1
  have hown := S.2.2.2.1
  have hts := S.2.2.2.2
  intro M a0 x1 x3 hw hE hk_a0 H locs hH hS ls hl
  unfold w0_tick_189 at hw
  refine lv_iload_n hx hb dX0_tick_189 rfl (lv_at hl 2 rfl) ?_
  refine lv_aload_n hx hb dX0_tick_190 rfl (lv_at hl 0 rfl) ?_
  refine co_geti S hK hH 0 0 100 (by decide) ⟨by decide, rfl, rfl, rfl⟩ (Or.inl q261) hk_a0 dX0_tick_191 ?_
  refine lv_icmp_ge (tgt := 226) hx hb dX0_tick_194 (by decide) (fun c26 => ?_) (fun c26 => ?_)
  · have hw := hw.1 c26
    exact r0_tick_226 S hr hlocks hK hA  _ _ _ hw hE hk_a0 _ _ hH hS _ (lv_sub hl [0, 1] rfl)
  · have hw := hw.2 c26
    exact r0_tick_197 S hr hlocks hK hA  _ _ _ _ hw hE hk_a0 _ _ hH hS _ (lv_sub hl [0, 1, 2] rfl)
def w0_tick_161 (post : Int32 → Mm → Prop)  (M : Mm) (a0 : Nat) (x1 : Int32) : Prop :=
  ∀ y3_24 : Int32, y3_24 = (mI M 102 a0 0) - (mI M 110 a0 0) → (((mI M 107 a0 0) = (mI M 109 a0 0) → ((mI M 113 a0 0) = 0 → w0_tick_197 post M a0 x1 y3_24) ∧ (¬ (mI M 113 a0 0) = 0 → w0_tick_189 post M a0 x1 y3_24)) ∧ (¬ (mI M 107 a0 0) = (mI M 109 a0 0) → w0_tick_189 post M a0 x1 y3_24))
set_option maxHeartbeats 4000000 in
set_option maxRecDepth 100000 in
theorem r0_tick_161 {p : Program} {l : Launch} {e : Env} {s : State} {m : MethodId} {args : Array Value} {below : List Frame} {meth : Method} {c : Code} {g : CG} {AD : Nat → Prop} {M0 : Mm} (S : CallFix p m c cX0_tick 4 s args lw_all RX0) (hr : meth.sig.returnType = (some .int)) (hlocks : meth.locks = false) (hK : KC g s) (hA : ∀ q, s.heap.size ≤ q → AD q) {post : Int32 → Mm → Prop}  : ∀ (M : Mm) (a0 : Nat) (x1 : Int32), w0_tick_161 post  M a0 x1 → Ext M0 M → mK M a0 = 1 → ∀ (H : Heap) (locs : List Loc), HC g AD M H → va_S AD s.heap H locs → ∀ (ls : Array Slot), lv_has ls 4 [(0, .ref a0), (1, .int x1)] → W p l e rm0_tick s m args below meth c H locs 0 0 (MQ below (CQi g AD M0 post) args s 0 0 AD) (F0 m 161 ls []) := by
  have hx := S.1
  have hb := S.2.1
  have hown := S.2.2.2.1
  have hts := S.2.2.2.2
  intro M a0 x1 hw hE hk_a0 H locs hH hS ls hl
  unfold w0_tick_161 at hw
  refine lv_aload_n hx hb dX0_tick_161 rfl (lv_at hl 0 rfl) ?_
  refine co_geti S hK hH 0 2 102 (by decide) ⟨by decide, rfl, rfl, rfl⟩ (Or.inl q263) hk_a0 dX0_tick_162 ?_
  refine lv_aload_n hx hb dX0_tick_165 rfl (lv_at hl 0 rfl) ?_
  refine co_geti S hK hH 0 10 110 (by decide) ⟨by decide, rfl, rfl, rfl⟩ (Or.inl q271) hk_a0 dX0_tick_166 ?_
  refine lv_isub hx hb dX0_tick_169 ?_
  refine lv_topi (fun y3_24 ey3_24 => ?_)
  have hw := hw y3_24 ey3_24
  refine lv_istore_n (lv' := [(3, .int y3_24), (0, .ref a0), (1, .int x1)]) hx hb dX0_tick_170 rfl hl (by decide) rfl (fun ls hl => ?_)
  refine lv_aload_n hx hb dX0_tick_171 rfl (lv_at hl 1 rfl) ?_
  refine co_geti S hK hH 0 7 107 (by decide) ⟨by decide, rfl, rfl, rfl⟩ (Or.inl q268) hk_a0 dX0_tick_172 ?_
  refine lv_aload_n hx hb dX0_tick_175 rfl (lv_at hl 1 rfl) ?_
  refine co_geti S hK hH 0 9 109 (by decide) ⟨by decide, rfl, rfl, rfl⟩ (Or.inl q270) hk_a0 dX0_tick_176 ?_
  refine lv_icmp_ne (tgt := 189) hx hb dX0_tick_179 (by decide) (fun c25 => ?_) (fun c25 => ?_)
  · have hw := hw.2 c25
    exact r0_tick_189 S hr hlocks hK hA  _ _ _ _ hw hE hk_a0 _ _ hH hS _ (lv_sub hl [1, 2, 0] rfl)
  · have hw := hw.1 c25
    refine lv_aload_n hx hb dX0_tick_182 rfl (lv_at hl 1 rfl) ?_
    refine co_geti S hK hH 0 13 113 (by decide) ⟨by decide, rfl, rfl, rfl⟩ (Or.inl q274) hk_a0 dX0_tick_183 ?_
    refine lv_if_eq (tgt := 197) hx hb dX0_tick_186 (by decide) (fun c39 => ?_) (fun c39 => ?_)
    · have hw := hw.1 c39
      exact r0_tick_197 S hr hlocks hK hA  _ _ _ _ hw hE hk_a0 _ _ hH hS _ (lv_sub hl [1, 2, 0] rfl)
    · have hw := hw.2 c39
      exact r0_tick_189 S hr hlocks hK hA  _ _ _ _ hw hE hk_a0 _ _ hH hS _ (lv_sub hl [1, 2, 0] rfl)
def w0_tick_156 (post : Int32 → Mm → Prop)  (M : Mm) (a0 : Nat) (x1 : Int32) (a2 : Nat) : Prop :=
  w0_sendsFar (fun (M18 : Mm) => w0_tick_161 post M18 a0 x1) M a0 a2
set_option maxHeartbeats 4000000 in
set_option maxRecDepth 100000 in
theorem r0_tick_156 {p : Program} {l : Launch} {e : Env} {s : State} {m : MethodId} {args : Array Value} {below : List Frame} {meth : Method} {c : Code} {g : CG} {AD : Nat → Prop} {M0 : Mm} (S : CallFix p m c cX0_tick 4 s args lw_all RX0) (hr : meth.sig.returnType = (some .int)) (hlocks : meth.locks = false) (hK : KC g s) (hA : ∀ q, s.heap.size ≤ q → AD q) {post : Int32 → Mm → Prop}  : ∀ (M : Mm) (a0 : Nat) (x1 : Int32) (a2 : Nat), w0_tick_156 post  M a0 x1 a2 → Ext M0 M → mK M a0 = 1 → mK M a2 = 5 → ∀ (H : Heap) (locs : List Loc), HC g AD M H → va_S AD s.heap H locs → ∀ (ls : Array Slot), lv_has ls 4 [(0, .ref a0), (1, .int x1), (2, .ref a2)] → W p l e rm0_tick s m args below meth c H locs 0 0 (MQ below (CQi g AD M0 post) args s 0 0 AD) (F0 m 156 ls []) := by
  have hx := S.1
  have hb := S.2.1
  have hown := S.2.2.2.1
  have hts := S.2.2.2.2
  intro M a0 x1 a2 hw hE hk_a0 hk_a2 H locs hH hS ls hl
  unfold w0_tick_156 at hw
  refine lv_aload_n hx hb dX0_tick_156 rfl (lv_at hl 0 rfl) ?_
  refine lv_aload_n hx hb dX0_tick_157 rfl (lv_at hl 2 rfl) ?_
  refine co_callv (va_runV (As := [.ref a2]) (rest := []) S (m0_sendsFar l g AD M a0 a2 _ hk_a0 hk_a2 hw) (cwV 1 hts (lw_V q561 q563 qs4 q54 q564) rfl rfl rfl (by decide +kernel) ⟨Nat.le_of_ble_eq_true rfl, Nat.le_of_ble_eq_true rfl⟩) ⟨co_blind, co_recv hK hH (c := 0) (by decide) hk_a0, co_pre hK hH hA hS⟩ rfl rfl hl.1 rfl (lv_room (Nat.le_of_ble_eq_true rfl)) dX0_tick_158 ⟨Nat.le_refl _, Nat.le_refl _⟩) hS (fun M18 H locs hw hH hE20 hS => ?_)
  have hk22 := hE20.k hk_a0 (by decide)
  have hk23 := hE20.k hk_a2 (by decide)
  have hE := hE.tr hE20
  exact r0_tick_161 S hr hlocks hK hA  _ _ _ hw hE hk22 _ _ hH hS _ (lv_sub hl [0, 1] rfl)
def w0_tick_137 (post : Int32 → Mm → Prop)  (M : Mm) (a0 : Nat) (x1 : Int32) (a2 : Nat) (x3 : Int32) : Prop :=
  ((mI M 501 a2 0) ≤ (mI M 119 a0 0) → w0_tick_161 post M a0 x1) ∧ (¬ (mI M 501 a2 0) ≤ (mI M 119 a0 0) → (x3 < (mI M 101 a0 0) → w0_tick_161 post M a0 x1) ∧ (¬ x3 < (mI M 101 a0 0) → w0_tick_156 post M a0 x1 a2))
set_option maxHeartbeats 4000000 in
set_option maxRecDepth 100000 in
theorem r0_tick_137 {p : Program} {l : Launch} {e : Env} {s : State} {m : MethodId} {args : Array Value} {below : List Frame} {meth : Method} {c : Code} {g : CG} {AD : Nat → Prop} {M0 : Mm} (S : CallFix p m c cX0_tick 4 s args lw_all RX0) (hr : meth.sig.returnType = (some .int)) (hlocks : meth.locks = false) (hK : KC g s) (hA : ∀ q, s.heap.size ≤ q → AD q) {post : Int32 → Mm → Prop}  : ∀ (M : Mm) (a0 : Nat) (x1 : Int32) (a2 : Nat) (x3 : Int32), w0_tick_137 post  M a0 x1 a2 x3 → Ext M0 M → mK M a0 = 1 → mK M a2 = 5 → ∀ (H : Heap) (locs : List Loc), HC g AD M H → va_S AD s.heap H locs → ∀ (ls : Array Slot), lv_has ls 4 [(0, .ref a0), (1, .int x1), (2, .ref a2), (3, .int x3)] → W p l e rm0_tick s m args below meth c H locs 0 0 (MQ below (CQi g AD M0 post) args s 0 0 AD) (F0 m 137 ls []) := by
  have hx := S.1
  have hb := S.2.1
  have hown := S.2.2.2.1
  have hts := S.2.2.2.2
  intro M a0 x1 a2 x3 hw hE hk_a0 hk_a2 H locs hH hS ls hl
  unfold w0_tick_137 at hw
  refine lv_aload_n hx hb dX0_tick_137 rfl (lv_at hl 0 rfl) ?_
  refine co_geti S hK hH 0 19 119 (by decide) ⟨by decide, rfl, rfl, rfl⟩ (Or.inl q280) hk_a0 dX0_tick_138 ?_
  refine lv_aload_n hx hb dX0_tick_141 rfl (lv_at hl 2 rfl) ?_
  refine co_geti S hK hH 4 1 501 (by decide) ⟨by decide, rfl, rfl, rfl⟩ (Or.inr ⟨_, q175⟩) hk_a2 dX0_tick_142 ?_
  refine lv_icmp_ge (tgt := 161) hx hb dX0_tick_145 (by decide) (fun c40 => ?_) (fun c40 => ?_)
  · have hw := hw.1 c40
    exact r0_tick_161 S hr hlocks hK hA  _ _ _ hw hE hk_a0 _ _ hH hS _ (lv_sub hl [0, 1] rfl)
  · have hw := hw.2 c40
    refine lv_iload_n hx hb dX0_tick_148 rfl (lv_at hl 3 rfl) ?_
    refine lv_aload_n hx hb dX0_tick_149 rfl (lv_at hl 0 rfl) ?_
    refine co_geti S hK hH 0 1 101 (by decide) ⟨by decide, rfl, rfl, rfl⟩ (Or.inl q262) hk_a0 dX0_tick_150 ?_
    refine lv_icmp_lt (tgt := 161) hx hb dX0_tick_153 (by decide) (fun c41 => ?_) (fun c41 => ?_)
    · have hw := hw.1 c41
      exact r0_tick_161 S hr hlocks hK hA  _ _ _ hw hE hk_a0 _ _ hH hS _ (lv_sub hl [0, 1] rfl)
    · have hw := hw.2 c41
      exact r0_tick_156 S hr hlocks hK hA  _ _ _ _ hw hE hk_a0 hk_a2 _ _ hH hS _ (lv_sub hl [0, 1, 2] rfl)
def w0_tick_129 (post : Int32 → Mm → Prop)  (M : Mm) (a0 : Nat) (x1 : Int32) (a2 : Nat) (x3 : Int32) : Prop :=
  ((mI M 100 a0 0) ≤ x3 → w0_tick_156 post M a0 x1 a2) ∧ (¬ (mI M 100 a0 0) ≤ x3 → w0_tick_137 post M a0 x1 a2 x3)
set_option maxHeartbeats 4000000 in
set_option maxRecDepth 100000 in
theorem r0_tick_129 {p : Program} {l : Launch} {e : Env} {s : State} {m : MethodId} {args : Array Value} {below : List Frame} {meth : Method} {c : Code} {g : CG} {AD : Nat → Prop} {M0 : Mm} (S : CallFix p m c cX0_tick 4 s args lw_all RX0) (hr : meth.sig.returnType = (some .int)) (hlocks : meth.locks = false) (hK : KC g s) (hA : ∀ q, s.heap.size ≤ q → AD q) {post : Int32 → Mm → Prop}  : ∀ (M : Mm) (a0 : Nat) (x1 : Int32) (a2 : Nat) (x3 : Int32), w0_tick_129 post  M a0 x1 a2 x3 → Ext M0 M → mK M a0 = 1 → mK M a2 = 5 → ∀ (H : Heap) (locs : List Loc), HC g AD M H → va_S AD s.heap H locs → ∀ (ls : Array Slot), lv_has ls 4 [(0, .ref a0), (1, .int x1), (2, .ref a2), (3, .int x3)] → W p l e rm0_tick s m args below meth c H locs 0 0 (MQ below (CQi g AD M0 post) args s 0 0 AD) (F0 m 129 ls []) := by
  have hx := S.1
  have hb := S.2.1
  have hown := S.2.2.2.1
  have hts := S.2.2.2.2
  intro M a0 x1 a2 x3 hw hE hk_a0 hk_a2 H locs hH hS ls hl
  unfold w0_tick_129 at hw
  refine lv_iload_n hx hb dX0_tick_129 rfl (lv_at hl 3 rfl) ?_
  refine lv_aload_n hx hb dX0_tick_130 rfl (lv_at hl 0 rfl) ?_
  refine co_geti S hK hH 0 0 100 (by decide) ⟨by decide, rfl, rfl, rfl⟩ (Or.inl q261) hk_a0 dX0_tick_131 ?_
  refine lv_icmp_ge (tgt := 156) hx hb dX0_tick_134 (by decide) (fun c17 => ?_) (fun c17 => ?_)
  · have hw := hw.1 c17
    exact r0_tick_156 S hr hlocks hK hA  _ _ _ _ hw hE hk_a0 hk_a2 _ _ hH hS _ (lv_sub hl [0, 1, 2] rfl)
  · have hw := hw.2 c17
    exact r0_tick_137 S hr hlocks hK hA  _ _ _ _ _ hw hE hk_a0 hk_a2 _ _ hH hS _ (lv_sub hl [0, 1, 2, 3] rfl)
def w0_tick_101 (post : Int32 → Mm → Prop)  (M : Mm) (a0 : Nat) (x1 : Int32) (a2 : Nat) : Prop :=
  ∀ y3_15 : Int32, y3_15 = (mI M 102 a0 0) - (mI M 121 a0 0) → (((mI M 501 a2 0) = (mI M 120 a0 0) → ((mI M 124 a0 0) = 0 → w0_tick_137 post M a0 x1 a2 y3_15) ∧ (¬ (mI M 124 a0 0) = 0 → w0_tick_129 post M a0 x1 a2 y3_15)) ∧ (¬ (mI M 501 a2 0) = (mI M 120 a0 0) → w0_tick_129 post M a0 x1 a2 y3_15))
set_option maxHeartbeats 4000000 in
set_option maxRecDepth 100000 in
theorem r0_tick_101 {p : Program} {l : Launch} {e : Env} {s : State} {m : MethodId} {args : Array Value} {below : List Frame} {meth : Method} {c : Code} {g : CG} {AD : Nat → Prop} {M0 : Mm} (S : CallFix p m c cX0_tick 4 s args lw_all RX0) (hr : meth.sig.returnType = (some .int)) (hlocks : meth.locks = false) (hK : KC g s) (hA : ∀ q, s.heap.size ≤ q → AD q) {post : Int32 → Mm → Prop}  : ∀ (M : Mm) (a0 : Nat) (x1 : Int32) (a2 : Nat), w0_tick_101 post  M a0 x1 a2 → Ext M0 M → mK M a0 = 1 → mK M a2 = 5 → ∀ (H : Heap) (locs : List Loc), HC g AD M H → va_S AD s.heap H locs → ∀ (ls : Array Slot), lv_has ls 4 [(0, .ref a0), (1, .int x1), (2, .ref a2)] → W p l e rm0_tick s m args below meth c H locs 0 0 (MQ below (CQi g AD M0 post) args s 0 0 AD) (F0 m 101 ls []) := by
  have hx := S.1
  have hb := S.2.1
  have hown := S.2.2.2.1
  have hts := S.2.2.2.2
  intro M a0 x1 a2 hw hE hk_a0 hk_a2 H locs hH hS ls hl
  unfold w0_tick_101 at hw
  refine lv_aload_n hx hb dX0_tick_101 rfl (lv_at hl 0 rfl) ?_
  refine co_geti S hK hH 0 2 102 (by decide) ⟨by decide, rfl, rfl, rfl⟩ (Or.inl q263) hk_a0 dX0_tick_102 ?_
  refine lv_aload_n hx hb dX0_tick_105 rfl (lv_at hl 0 rfl) ?_
  refine co_geti S hK hH 0 21 121 (by decide) ⟨by decide, rfl, rfl, rfl⟩ (Or.inl q282) hk_a0 dX0_tick_106 ?_
  refine lv_isub hx hb dX0_tick_109 ?_
  refine lv_topi (fun y3_15 ey3_15 => ?_)
  have hw := hw y3_15 ey3_15
  refine lv_istore_n (lv' := [(3, .int y3_15), (0, .ref a0), (1, .int x1), (2, .ref a2)]) hx hb dX0_tick_110 rfl hl (by decide) rfl (fun ls hl => ?_)
  refine lv_aload_n hx hb dX0_tick_111 rfl (lv_at hl 3 rfl) ?_
  refine co_geti S hK hH 4 1 501 (by decide) ⟨by decide, rfl, rfl, rfl⟩ (Or.inr ⟨_, q175⟩) hk_a2 dX0_tick_112 ?_
  refine lv_aload_n hx hb dX0_tick_115 rfl (lv_at hl 1 rfl) ?_
  refine co_geti S hK hH 0 20 120 (by decide) ⟨by decide, rfl, rfl, rfl⟩ (Or.inl q281) hk_a0 dX0_tick_116 ?_
  refine lv_icmp_ne (tgt := 129) hx hb dX0_tick_119 (by decide) (fun c16 => ?_) (fun c16 => ?_)
  · have hw := hw.2 c16
    exact r0_tick_129 S hr hlocks hK hA  _ _ _ _ _ hw hE hk_a0 hk_a2 _ _ hH hS _ (lv_sub hl [1, 2, 3, 0] rfl)
  · have hw := hw.1 c16
    refine lv_aload_n hx hb dX0_tick_122 rfl (lv_at hl 1 rfl) ?_
    refine co_geti S hK hH 0 24 124 (by decide) ⟨by decide, rfl, rfl, rfl⟩ (Or.inl q285) hk_a0 dX0_tick_123 ?_
    refine lv_if_eq (tgt := 137) hx hb dX0_tick_126 (by decide) (fun c42 => ?_) (fun c42 => ?_)
    · have hw := hw.1 c42
      exact r0_tick_137 S hr hlocks hK hA  _ _ _ _ _ hw hE hk_a0 hk_a2 _ _ hH hS _ (lv_sub hl [1, 2, 3, 0] rfl)
    · have hw := hw.2 c42
      exact r0_tick_129 S hr hlocks hK hA  _ _ _ _ _ hw hE hk_a0 hk_a2 _ _ hH hS _ (lv_sub hl [1, 2, 3, 0] rfl)
def w0_tick_62 (post : Int32 → Mm → Prop)  (M : Mm) (a0 : Nat) (x1 : Int32) (a2 : Nat) : Prop :=
  ∀ y3_52 : Int32, y3_52 = (mI M 501 a2 0) + 1 → (mK M (mP M 125 a0 0) = 4 ∧ (w3_next (fun (r55 : Nat) (M54 : Mm) => mK M54 (mP M54 500 r55 0) = 6 ∧ (mK M54 (mP M54 126 a0 0) = 6 ∧ (w5_copies (fun (M62 : Mm) => ∀ M68 : Mm, M68 = sI M62 501 r55 0 y3_52 → (∀ M72 : Mm, M72 = sI M68 502 r55 0 (mI M68 118 a0 0) → (w0_tick_101 post M72 a0 x1 r55))) M54 (mP M54 500 r55 0) (mP M54 126 a0 0)))) M (mP M 125 a0 0)))
set_option maxHeartbeats 4000000 in
set_option maxRecDepth 100000 in
theorem r0_tick_62 {p : Program} {l : Launch} {e : Env} {s : State} {m : MethodId} {args : Array Value} {below : List Frame} {meth : Method} {c : Code} {g : CG} {AD : Nat → Prop} {M0 : Mm} (S : CallFix p m c cX0_tick 4 s args lw_all RX0) (hr : meth.sig.returnType = (some .int)) (hlocks : meth.locks = false) (hK : KC g s) (hA : ∀ q, s.heap.size ≤ q → AD q) {post : Int32 → Mm → Prop}  : ∀ (M : Mm) (a0 : Nat) (x1 : Int32) (a2 : Nat), w0_tick_62 post  M a0 x1 a2 → Ext M0 M → mK M a0 = 1 → mK M a2 = 5 → ∀ (H : Heap) (locs : List Loc), HC g AD M H → va_S AD s.heap H locs → ∀ (ls : Array Slot), lv_has ls 4 [(0, .ref a0), (1, .int x1), (2, .ref a2)] → W p l e rm0_tick s m args below meth c H locs 0 0 (MQ below (CQi g AD M0 post) args s 0 0 AD) (F0 m 62 ls []) := by
  have hx := S.1
  have hb := S.2.1
  have hown := S.2.2.2.1
  have hts := S.2.2.2.2
  intro M a0 x1 a2 hw hE hk_a0 hk_a2 H locs hH hS ls hl
  unfold w0_tick_62 at hw
  refine lv_aload_n hx hb dX0_tick_62 rfl (lv_at hl 2 rfl) ?_
  refine co_geti S hK hH 4 1 501 (by decide) ⟨by decide, rfl, rfl, rfl⟩ (Or.inr ⟨_, q175⟩) hk_a2 dX0_tick_63 ?_
  refine lv_iconst (v := 1) hx hb dX0_tick_66 (by decide) ?_
  refine lv_iadd hx hb dX0_tick_67 ?_
  refine lv_topi (fun y3_52 ey3_52 => ?_)
  have hw := hw y3_52 ey3_52
  refine lv_istore_n (lv' := [(3, .int y3_52), (0, .ref a0), (1, .int x1), (2, .ref a2)]) hx hb dX0_tick_68 rfl hl (by decide) rfl (fun ls hl => ?_)
  refine lv_aload_n hx hb dX0_tick_69 rfl (lv_at hl 1 rfl) ?_
  have hk53 := hw.1
  have hw := hw.2
  refine co_getr S hK hH 0 25 125 (by decide) ⟨by decide, rfl, rfl, rfl⟩ (Or.inl q286) hk_a0 (by rw [hk53]; decide) dX0_tick_70 ?_
  refine co_callr (va_runV (As := []) (rest := []) S (m3_next l g AD M (mP M 125 a0 0) _ hk53 hw) (cwV 0 hts (lw_V q253 q254 q255 q57 q256) rfl rfl rfl (by decide +kernel) ⟨Nat.le_of_ble_eq_true rfl, Nat.le_of_ble_eq_true rfl⟩) ⟨co_blind, co_recv hK hH (c := 3) (by decide) hk53, co_pre hK hH hA hS⟩ rfl rfl hl.1 rfl (lv_room (Nat.le_of_ble_eq_true rfl)) dX0_tick_73 ⟨Nat.le_refl _, Nat.le_refl _⟩) hS (fun r55 M54 H locs hw hH hE56 hk57 hS => ?_)
  have hk58 := hE56.k hk_a0 (by decide)
  have hk59 := hE56.k hk_a2 (by decide)
  have hE := hE.tr hE56
  have hk57 : mK M54 r55 = 5 := hk57
  refine lv_astore_n (lv' := [(2, .ref r55), (3, .int y3_52), (0, .ref a0), (1, .int x1)]) hx hb dX0_tick_76 rfl hl (by decide) rfl (fun ls hl => ?_)
  refine lv_aload_n hx hb dX0_tick_77 rfl (lv_at hl 0 rfl) ?_
  have hk60 := hw.1
  have hw := hw.2
  refine co_getr S hK hH 4 0 500 (by decide) ⟨by decide, rfl, rfl, rfl⟩ (Or.inr ⟨_, q172⟩) hk57 (by rw [hk60]; decide) dX0_tick_78 ?_
  refine lv_aload_n hx hb dX0_tick_81 rfl (lv_at hl 2 rfl) ?_
  have hk61 := hw.1
  have hw := hw.2
  refine co_getr S hK hH 0 26 126 (by decide) ⟨by decide, rfl, rfl, rfl⟩ (Or.inl q287) hk58 (by rw [hk61]; decide) dX0_tick_82 ?_
  refine co_callv (va_runV (As := [.ref (mP M54 126 a0 0)]) (rest := []) S (m5_copies l g AD M54 (mP M54 500 r55 0) (mP M54 126 a0 0) _ hk60 hk61 hw) (cwV 1 hts (lw_V q246 q247 q248 q59 q249) rfl rfl rfl (by decide +kernel) ⟨Nat.le_of_ble_eq_true rfl, Nat.le_of_ble_eq_true rfl⟩) ⟨co_blind, co_recv hK hH (c := 5) (by decide) hk60, co_pre hK hH hA hS⟩ rfl rfl hl.1 rfl (lv_room (Nat.le_of_ble_eq_true rfl)) dX0_tick_85 ⟨Nat.le_refl _, Nat.le_refl _⟩) hS (fun M62 H locs hw hH hE64 hS => ?_)
  have hk66 := hE64.k hk58 (by decide)
  have hk67 := hE64.k hk57 (by decide)
  have hE := hE.tr hE64
  refine lv_aload_n hx hb dX0_tick_88 rfl (lv_at hl 0 rfl) ?_
  refine lv_iload_n hx hb dX0_tick_89 rfl (lv_at hl 1 rfl) ?_
  refine co_puti S hK hH hS 4 1 501 (by decide) ⟨by decide, rfl, rfl, rfl, rfl⟩ (Or.inr ⟨_, q175⟩) hk67 ⟨rfl, rfl⟩ dX0_tick_90 (fun H locs hH hS => ?_)
  obtain ⟨M68, eM68⟩ : ∃ y : Mm, y = sI M62 501 r55 0 y3_52 := ⟨_, rfl⟩
  have hw := hw M68 eM68
  rw [← eM68] at hH
  have hE69 : Ext M62 M68 := by rw [eM68]; exact Ext.sI
  have hk70 := hE69.k hk66 (by decide)
  have hk71 := hE69.k hk67 (by decide)
  have hE := hE.tr hE69
  refine lv_aload_n hx hb dX0_tick_93 rfl (lv_at hl 0 rfl) ?_
  refine lv_aload_n hx hb dX0_tick_94 rfl (lv_at hl 2 rfl) ?_
  refine co_geti S hK hH 0 18 118 (by decide) ⟨by decide, rfl, rfl, rfl⟩ (Or.inl q279) hk70 dX0_tick_95 ?_
  refine co_puti S hK hH hS 4 2 502 (by decide) ⟨by decide, rfl, rfl, rfl, rfl⟩ (Or.inr ⟨_, q176⟩) hk71 ⟨rfl, rfl⟩ dX0_tick_98 (fun H locs hH hS => ?_)
  obtain ⟨M72, eM72⟩ : ∃ y : Mm, y = sI M68 502 r55 0 (mI M68 118 a0 0) := ⟨_, rfl⟩
  have hw := hw M72 eM72
  rw [← eM72] at hH
  have hE73 : Ext M68 M72 := by rw [eM72]; exact Ext.sI
  have hk74 := hE73.k hk70 (by decide)
  have hk75 := hE73.k hk71 (by decide)
  have hE := hE.tr hE73
  exact r0_tick_101 S hr hlocks hK hA  _ _ _ _ hw hE hk74 hk75 _ _ hH hS _ (lv_sub hl [2, 3, 0] rfl)
def w0_tick (post : Int32 → Mm → Prop) (M : Mm) (a0 : Nat) : Prop :=
  ∀ M1 : Mm, M1 = sI M 102 a0 0 ((mI M 102 a0 0) + 1) → (mK M1 (mP M1 103 a0 0) = 24 ∧ (vp_in 0 10 ∧ (∀ y1_6 : Int32, y1_6 = mI M1 24 (mP M1 103 a0 0) (0 : Int32).toNatClampNeg → (mK M1 (mP M1 125 a0 0) = 4 ∧ (w3_newest (fun (r9 : Nat) (M8 : Mm) => mK M8 (mP M8 125 a0 0) = 4 ∧ ((32 ≤ (mI M8 401 (mP M8 125 a0 0) 0) → w0_tick_101 post M8 a0 y1_6 r9) ∧ (¬ 32 ≤ (mI M8 401 (mP M8 125 a0 0) 0) → mK M8 (mP M8 126 a0 0) = 6 ∧ (mK M8 (mP M8 500 r9 0) = 6 ∧ (w5_isSame (fun (r46 : Int32) (M45 : Mm) => (r46 = 0 → w0_tick_62 post M45 a0 y1_6 r9) ∧ (¬ r46 = 0 → ((mI M45 118 a0 0) = (mI M45 502 r9 0) → w0_tick_101 post M45 a0 y1_6 r9) ∧ (¬ (mI M45 118 a0 0) = (mI M45 502 r9 0) → w0_tick_62 post M45 a0 y1_6 r9))) M8 (mP M8 126 a0 0) (mP M8 500 r9 0)))))) M1 (mP M1 125 a0 0))))))
set_option maxHeartbeats 4000000 in
set_option maxRecDepth 100000 in
theorem m0_tick (l : Launch) (g : CG) (AD : Nat → Prop) (M : Mm) (a0 : Nat) (post : Int32 → Mm → Prop) (hk_a0 : mK M a0 = 1) (hw : w0_tick post M a0) : Met l yX0_tick (ws_ yX0_tick cX0_tick 4 (some .int)) rm0_tick (CPc g AD M [.ref a0]) (CQi g AD M post) 0 0 AD := by
  refine Met.ofW (cc := cX0_tick) (maxL := 4) (ret := (some .int)) (by decide) rfl ?_
  intro p e s m args below meth c s₁ B hml hv
  obtain ⟨rfl, hK, hH, hA⟩ := hv
  have hx := B.exec
  have hb := B.bytes
  have hr : meth.sig.returnType = (some .int) := B.returns
  have hts := atoms_spec (ws := ws_ yX0_tick cX0_tick 4 (some .int)) B.pre
  have hts : ∀ w ∈ lw_all, w.before _ s = true := fun w h => hts w (List.mem_cons_of_mem _ h)
  have hown : s.vm.findClass RX0 = some m.cls := findClass_of_methodNamed B.named
  have hlocks : meth.locks = false := B.notSynchronized
  have S : CallFix p m c cX0_tick 4 s _ lw_all RX0 := ⟨hx, hb, hml, hown, hts⟩
  have hS : va_S AD s.heap s.heap [] := va_S.rf
  have hE : Ext M M := Ext.rf
  have hl := lv_entry ([.ref a0]) (n := 4) (Nat.le_of_ble_eq_true rfl)
  rw [lg_entry_eq]
  generalize (lg_sl ([.ref a0]) ++ List.replicate (4 - (lg_sl ([.ref a0])).length) Slot.unset).toArray = ls at hl ⊢
  have hl : lv_has ls 4 [(0, .ref a0)] := hl
  unfold w0_tick at hw
  refine lv_aload_n hx hb dX0_tick_0 rfl (lv_at hl 0 rfl) ?_
  refine lv_dup hx hb dX0_tick_1 rfl ?_
  refine co_geti S hK hH 0 2 102 (by decide) ⟨by decide, rfl, rfl, rfl⟩ (Or.inl q263) hk_a0 dX0_tick_2 ?_
  refine lv_iconst (v := 1) hx hb dX0_tick_5 (by decide) ?_
  refine lv_iadd hx hb dX0_tick_6 ?_
  refine co_puti S hK hH hS 0 2 102 (by decide) ⟨by decide, rfl, rfl, rfl, rfl⟩ (Or.inl q263) hk_a0 ⟨rfl, rfl⟩ dX0_tick_7 (fun H locs hH hS => ?_)
  obtain ⟨M1, eM1⟩ : ∃ y : Mm, y = sI M 102 a0 0 ((mI M 102 a0 0) + 1) := ⟨_, rfl⟩
  have hw := hw M1 eM1
  rw [← eM1] at hH
  have hE2 : Ext M M1 := by rw [eM1]; exact Ext.sI
  have hk3 := hE2.k hk_a0 (by decide)
  have hE := hE.tr hE2
  refine lv_aload_n hx hb dX0_tick_10 rfl (lv_at hl 0 rfl) ?_
  have hk4 := hw.1
  have hw := hw.2
  refine co_getr S hK hH 0 3 103 (by decide) ⟨by decide, rfl, rfl, rfl⟩ (Or.inl q264) hk3 (by rw [hk4]; decide) dX0_tick_11 ?_
  refine lv_iconst (v := 0) hx hb dX0_tick_14 (by decide) ?_
  have hin5 := hw.1
  have hw := hw.2
  refine co_iald S hK hH 4 24 ⟨by decide, rfl, rfl⟩ hk4 hin5 dX0_tick_15 ?_
  refine lv_topi (fun y1_6 ey1_6 => ?_)
  have hw := hw y1_6 ey1_6
  refine lv_istore_n (lv' := [(1, .int y1_6), (0, .ref a0)]) hx hb dX0_tick_16 rfl hl (by decide) rfl (fun ls hl => ?_)
  refine lv_aload_n hx hb dX0_tick_17 rfl (lv_at hl 1 rfl) ?_
  have hk7 := hw.1
  have hw := hw.2
  refine co_getr S hK hH 0 25 125 (by decide) ⟨by decide, rfl, rfl, rfl⟩ (Or.inl q286) hk3 (by rw [hk7]; decide) dX0_tick_18 ?_
  refine co_callr (va_runV (As := []) (rest := []) S (m3_newest l g AD M1 (mP M1 125 a0 0) _ hk7 hw) (cwV 0 hts (lw_V q536 q258 q259 q57 q260) rfl rfl rfl (by decide +kernel) ⟨Nat.le_of_ble_eq_true rfl, Nat.le_of_ble_eq_true rfl⟩) ⟨co_blind, co_recv hK hH (c := 3) (by decide) hk7, co_pre hK hH hA hS⟩ rfl rfl hl.1 rfl (lv_room (Nat.le_of_ble_eq_true rfl)) dX0_tick_21 ⟨Nat.le_refl _, Nat.le_refl _⟩) hS (fun r9 M8 H locs hw hH hE10 hk11 hS => ?_)
  have hk12 := hE10.k hk3 (by decide)
  have hE := hE.tr hE10
  have hk11 : mK M8 r9 = 5 := hk11
  refine lv_astore_n (lv' := [(2, .ref r9), (1, .int y1_6), (0, .ref a0)]) hx hb dX0_tick_24 rfl hl (by decide) rfl (fun ls hl => ?_)
  refine lv_aload_n hx hb dX0_tick_25 rfl (lv_at hl 2 rfl) ?_
  have hk13 := hw.1
  have hw := hw.2
  refine co_getr S hK hH 0 25 125 (by decide) ⟨by decide, rfl, rfl, rfl⟩ (Or.inl q286) hk12 (by rw [hk13]; decide) dX0_tick_26 ?_
  refine co_geti S hK hH 3 1 401 (by decide) ⟨by decide, rfl, rfl, rfl⟩ (Or.inr ⟨_, q188⟩) hk13 dX0_tick_29 ?_
  refine lv_bipush (v := 32) hx hb dX0_tick_32 (by decide) ?_
  refine lv_icmp_ge (tgt := 101) hx hb dX0_tick_34 (by decide) (fun c14 => ?_) (fun c14 => ?_)
  · have hw := hw.1 c14
    exact r0_tick_101 S hr hlocks hK hA  _ _ _ _ hw hE hk12 hk11 _ _ hH hS _ (lv_sub hl [2, 1, 0] rfl)
  · have hw := hw.2 c14
    refine lv_aload_n hx hb dX0_tick_37 rfl (lv_at hl 2 rfl) ?_
    have hk43 := hw.1
    have hw := hw.2
    refine co_getr S hK hH 0 26 126 (by decide) ⟨by decide, rfl, rfl, rfl⟩ (Or.inl q287) hk12 (by rw [hk43]; decide) dX0_tick_38 ?_
    refine lv_aload_n hx hb dX0_tick_41 rfl (lv_at hl 0 rfl) ?_
    have hk44 := hw.1
    have hw := hw.2
    refine co_getr S hK hH 4 0 500 (by decide) ⟨by decide, rfl, rfl, rfl⟩ (Or.inr ⟨_, q172⟩) hk11 (by rw [hk44]; decide) dX0_tick_42 ?_
    refine co_calli (va_runV (As := [.ref (mP M8 500 r9 0)]) (rest := []) S (m5_isSame l g AD M8 (mP M8 126 a0 0) (mP M8 500 r9 0) _ hk43 hk44 hw) (cwV 1 hts (lw_V q553 q554 q555 q59 q556) rfl rfl rfl (by decide +kernel) ⟨Nat.le_of_ble_eq_true rfl, Nat.le_of_ble_eq_true rfl⟩) ⟨co_blind, co_recv hK hH (c := 5) (by decide) hk43, co_pre hK hH hA hS⟩ rfl rfl hl.1 rfl (lv_room (Nat.le_of_ble_eq_true rfl)) dX0_tick_45 ⟨Nat.le_refl _, Nat.le_refl _⟩) hS (fun r46 M45 H locs hw hH hE47 hS => ?_)
    have hk49 := hE47.k hk12 (by decide)
    have hk50 := hE47.k hk11 (by decide)
    have hE := hE.tr hE47
    refine lv_if_eq (tgt := 62) hx hb dX0_tick_48 (by decide) (fun c51 => ?_) (fun c51 => ?_)
    · have hw := hw.1 c51
      exact r0_tick_62 S hr hlocks hK hA  _ _ _ _ hw hE hk49 hk50 _ _ hH hS _ (lv_sub hl [2, 1, 0] rfl)
    · have hw := hw.2 c51
      refine lv_aload_n hx hb dX0_tick_51 rfl (lv_at hl 2 rfl) ?_
      refine co_geti S hK hH 0 18 118 (by decide) ⟨by decide, rfl, rfl, rfl⟩ (Or.inl q279) hk49 dX0_tick_52 ?_
      refine lv_aload_n hx hb dX0_tick_55 rfl (lv_at hl 0 rfl) ?_
      refine co_geti S hK hH 4 2 502 (by decide) ⟨by decide, rfl, rfl, rfl⟩ (Or.inr ⟨_, q176⟩) hk50 dX0_tick_56 ?_
      refine lv_icmp_eq (tgt := 101) hx hb dX0_tick_59 (by decide) (fun c76 => ?_) (fun c76 => ?_)
      · have hw := hw.1 c76
        exact r0_tick_101 S hr hlocks hK hA  _ _ _ _ hw hE hk49 hk50 _ _ hH hS _ (lv_sub hl [2, 1, 0] rfl)
      · have hw := hw.2 c76
        exact r0_tick_62 S hr hlocks hK hA  _ _ _ _ hw hE hk49 hk50 _ _ hH hS _ (lv_sub hl [2, 1, 0] rfl)
/-! FarTypewriter.round()I -/
abbrev rm0_round : Room := { frames := 9, cells := 0, slots := 0, locals := 361 }
def b0_round_14 (post : Int32 → Mm → Prop) (k66 : Mm → Nat → Int32 → Int32 → Prop) (kb : Mm → Nat → Int32 → Int32 → Prop) (M : Mm) (a0 : Nat) (x1 : Int32) (x2 : Int32) : Prop :=
  mK M (mP M 104 a0 0) = 27 ∧ (vp_in x2 2 ∧ (mK M (mP M 27 (mP M 104 a0 0) x2.toNatClampNeg) = 2 ∧ (((mI M 201 (mP M 27 (mP M 104 a0 0) x2.toNatClampNeg) 0) ≤ 0 → k66 M a0 x1 x2) ∧ (¬ (mI M 201 (mP M 27 (mP M 104 a0 0) x2.toNatClampNeg) 0) ≤ 0 → mK M (mP M 105 a0 0) = 3 ∧ (mK M (mP M 104 a0 0) = 27 ∧ (vp_in x2 2 ∧ (mK M (mP M 27 (mP M 104 a0 0) x2.toNatClampNeg) = 2 ∧ (mK M (mP M 200 (mP M 27 (mP M 104 a0 0) x2.toNatClampNeg) 0) = 26 ∧ (vp_in 0 40 ∧ (mK M (mP M 26 (mP M 200 (mP M 27 (mP M 104 a0 0) x2.toNatClampNeg) 0) (0 : Int32).toNatClampNeg) = 3 ∧ (w2_copies (fun (M18 : Mm) => mK M18 (mP M18 104 a0 0) = 27 ∧ (vp_in x2 2 ∧ (mK M18 (mP M18 27 (mP M18 104 a0 0) x2.toNatClampNeg) = 2 ∧ (w1_goes (fun (M26 : Mm) => w0_takes (fun (M31 : Mm) => kb M31 a0 (x1 + 1) x2) M26 a0 x2 0) M18 (mP M18 27 (mP M18 104 a0 0) x2.toNatClampNeg) 0)))) M (mP M 105 a0 0) (mP M 26 (mP M 200 (mP M 27 (mP M 104 a0 0) x2.toNatClampNeg) 0) (0 : Int32).toNatClampNeg))))))))))))
def w0_round_14 (post : Int32 → Mm → Prop) (k66 : Mm → Nat → Int32 → Int32 → Prop) : Nat → Mm → Nat → Int32 → Int32 → Prop
  | 0 => fun _ _ _ _ => False
  | n + 1 => b0_round_14 post k66 (w0_round_14 post k66 n)
set_option maxHeartbeats 4000000 in
set_option maxRecDepth 100000 in
theorem r0_round_14 {p : Program} {l : Launch} {e : Env} {s : State} {m : MethodId} {args : Array Value} {below : List Frame} {meth : Method} {c : Code} {g : CG} {AD : Nat → Prop} {M0 : Mm} (S : CallFix p m c cX0_round 3 s args lw_all RX0) (hr : meth.sig.returnType = (some .int)) (hlocks : meth.locks = false) (hK : KC g s) (hA : ∀ q, s.heap.size ≤ q → AD q) {post : Int32 → Mm → Prop} {k66 : Mm → Nat → Int32 → Int32 → Prop} (hk66 : ∀ (M : Mm) (a0 : Nat) (x1 : Int32) (x2 : Int32), k66 M a0 x1 x2 → Ext M0 M → mK M a0 = 1 → ∀ (H : Heap) (locs : List Loc), HC g AD M H → va_S AD s.heap H locs → ∀ (ls : Array Slot), lv_has ls 3 [(0, .ref a0), (1, .int x1), (2, .int x2)] → W p l e rm0_round s m args below meth c H locs 0 0 (MQ below (CQi g AD M0 post) args s 0 0 AD) (F0 m 66 ls [])) : ∀ n : Nat, ∀ (M : Mm) (a0 : Nat) (x1 : Int32) (x2 : Int32), w0_round_14 post k66 n M a0 x1 x2 → Ext M0 M → mK M a0 = 1 → ∀ (H : Heap) (locs : List Loc), HC g AD M H → va_S AD s.heap H locs → ∀ (ls : Array Slot), lv_has ls 3 [(0, .ref a0), (1, .int x1), (2, .int x2)] → W p l e rm0_round s m args below meth c H locs 0 0 (MQ below (CQi g AD M0 post) args s 0 0 AD) (F0 m 14 ls []) := by
  have hx := S.1
  have hb := S.2.1
  have hown := S.2.2.2.1
  have hts := S.2.2.2.2
  intro n
  induction n with
  | zero =>
    intro M a0 x1 x2 hw
    exact hw.elim
  | succ n hkb =>
    intro M a0 x1 x2 hw hE hk_a0 H locs hH hS ls hl
    unfold w0_round_14 b0_round_14 at hw
    refine lv_aload_n hx hb dX0_round_14 rfl (lv_at hl 0 rfl) ?_
    have hk7 := hw.1
    have hw := hw.2
    refine co_getr S hK hH 0 4 104 (by decide) ⟨by decide, rfl, rfl, rfl⟩ (Or.inl q265) hk_a0 (by rw [hk7]; decide) dX0_round_15 ?_
    refine lv_iload_n hx hb dX0_round_18 rfl (lv_at hl 2 rfl) ?_
    have hin8 := hw.1
    have hw := hw.2
    have hk9 := hw.1
    have hw := hw.2
    refine co_aald S hK hH 7 27 ⟨by decide, rfl, rfl⟩ hk7 hin8 (by rw [hk9]; decide) dX0_round_19 ?_
    refine co_geti S hK hH 1 1 201 (by decide) ⟨by decide, rfl, rfl, rfl⟩ (Or.inr ⟨_, q111⟩) hk9 dX0_round_20 ?_
    refine lv_if_le (tgt := 66) hx hb dX0_round_23 (by decide) (fun c10 => ?_) (fun c10 => ?_)
    · have hw := hw.1 c10
      exact hk66 _ _ _ _ hw hE hk_a0 _ _ hH hS _ (lv_sub hl [0, 1, 2] rfl)
    · have hw := hw.2 c10
      refine lv_aload_n hx hb dX0_round_26 rfl (lv_at hl 0 rfl) ?_
      have hk11 := hw.1
      have hw := hw.2
      refine co_getr S hK hH 0 5 105 (by decide) ⟨by decide, rfl, rfl, rfl⟩ (Or.inl q266) hk_a0 (by rw [hk11]; decide) dX0_round_27 ?_
      refine lv_aload_n hx hb dX0_round_30 rfl (lv_at hl 0 rfl) ?_
      have hk12 := hw.1
      have hw := hw.2
      refine co_getr S hK hH 0 4 104 (by decide) ⟨by decide, rfl, rfl, rfl⟩ (Or.inl q265) hk_a0 (by rw [hk12]; decide) dX0_round_31 ?_
      refine lv_iload_n hx hb dX0_round_34 rfl (lv_at hl 2 rfl) ?_
      have hin13 := hw.1
      have hw := hw.2
      have hk14 := hw.1
      have hw := hw.2
      refine co_aald S hK hH 7 27 ⟨by decide, rfl, rfl⟩ hk12 hin13 (by rw [hk14]; decide) dX0_round_35 ?_
      have hk15 := hw.1
      have hw := hw.2
      refine co_getr S hK hH 1 0 200 (by decide) ⟨by decide, rfl, rfl, rfl⟩ (Or.inr ⟨_, q109⟩) hk14 (by rw [hk15]; decide) dX0_round_36 ?_
      refine lv_iconst (v := 0) hx hb dX0_round_39 (by decide) ?_
      have hin16 := hw.1
      have hw := hw.2
      have hk17 := hw.1
      have hw := hw.2
      refine co_aald S hK hH 6 26 ⟨by decide, rfl, rfl⟩ hk15 hin16 (by rw [hk17]; decide) dX0_round_40 ?_
      refine co_callv (va_runV (As := [.ref (mP M 26 (mP M 200 (mP M 27 (mP M 104 a0 0) x2.toNatClampNeg) 0) (0 : Int32).toNatClampNeg)]) (rest := []) S (m2_copies l g AD M (mP M 105 a0 0) (mP M 26 (mP M 200 (mP M 27 (mP M 104 a0 0) x2.toNatClampNeg) 0) (0 : Int32).toNatClampNeg) _ hk11 hk17 hw) (cwV 1 hts (lw_V q607 q608 q609 q56 q610) rfl rfl rfl (by decide +kernel) ⟨Nat.le_of_ble_eq_true rfl, Nat.le_of_ble_eq_true rfl⟩) ⟨co_blind, co_recv hK hH (c := 2) (by decide) hk11, co_pre hK hH hA hS⟩ rfl rfl hl.1 rfl (lv_room (Nat.le_of_ble_eq_true rfl)) dX0_round_41 ⟨Nat.le_refl _, Nat.le_refl _⟩) hS (fun M18 H locs hw hH hE20 hS => ?_)
      have hk22 := hE20.k hk_a0 (by decide)
      have hE := hE.tr hE20
      refine lv_aload_n hx hb dX0_round_44 rfl (lv_at hl 0 rfl) ?_
      have hk23 := hw.1
      have hw := hw.2
      refine co_getr S hK hH 0 4 104 (by decide) ⟨by decide, rfl, rfl, rfl⟩ (Or.inl q265) hk22 (by rw [hk23]; decide) dX0_round_45 ?_
      refine lv_iload_n hx hb dX0_round_48 rfl (lv_at hl 2 rfl) ?_
      have hin24 := hw.1
      have hw := hw.2
      have hk25 := hw.1
      have hw := hw.2
      refine co_aald S hK hH 7 27 ⟨by decide, rfl, rfl⟩ hk23 hin24 (by rw [hk25]; decide) dX0_round_49 ?_
      refine lv_iconst (v := 0) hx hb dX0_round_50 (by decide) ?_
      refine co_callv (va_runV (As := [.int 0]) (rest := []) S (m1_goes l g AD M18 (mP M18 27 (mP M18 104 a0 0) x2.toNatClampNeg) 0 _ hk25 hw) (cwV 1 hts (lw_V q621 q622 q623 q55 q624) rfl rfl rfl (by decide +kernel) ⟨Nat.le_of_ble_eq_true rfl, Nat.le_of_ble_eq_true rfl⟩) ⟨co_blind, co_recv hK hH (c := 1) (by decide) hk25, co_pre hK hH hA hS⟩ rfl rfl hl.1 rfl (lv_room (Nat.le_of_ble_eq_true rfl)) dX0_round_51 ⟨Nat.le_refl _, Nat.le_refl _⟩) hS (fun M26 H locs hw hH hE28 hS => ?_)
      have hk30 := hE28.k hk22 (by decide)
      have hE := hE.tr hE28
      refine lv_aload_n hx hb dX0_round_54 rfl (lv_at hl 0 rfl) ?_
      refine lv_iload_n hx hb dX0_round_55 rfl (lv_at hl 2 rfl) ?_
      refine lv_iconst (v := 0) hx hb dX0_round_56 (by decide) ?_
      refine co_callv (va_runV (As := [.int x2, .int 0]) (rest := []) S (m0_takes l g AD M26 a0 x2 0 _ hk30 hw) (cwV 2 hts (lw_V q626 q628 qs9 q54 q629) rfl rfl rfl (by decide +kernel) ⟨Nat.le_of_ble_eq_true rfl, Nat.le_of_ble_eq_true rfl⟩) ⟨co_blind, co_recv hK hH (c := 0) (by decide) hk30, co_pre hK hH hA hS⟩ rfl rfl hl.1 rfl (lv_room (Nat.le_of_ble_eq_true rfl)) dX0_round_57 ⟨Nat.le_refl _, Nat.le_refl _⟩) hS (fun M31 H locs hw hH hE33 hS => ?_)
      have hk35 := hE33.k hk30 (by decide)
      have hE := hE.tr hE33
      refine lv_iinc (v := x1 + 1) (lv' := [(1, .int (x1 + 1)), (0, .ref a0), (2, .int x2)]) hx hb dX0_round_60 hl (k := 1) rfl rfl (by decide) rfl (fun ls hl => ?_)
      refine lv_goto (tgt := 14) hx hb dX0_round_63 (by decide) ?_
      exact hkb _ _ _ _ hw hE hk35 _ _ hH hS _ (lv_sub hl [1, 0, 2] rfl)
def b0_round_9 (post : Int32 → Mm → Prop)  (kb : Mm → Nat → Int32 → Int32 → Prop) (M : Mm) (a0 : Nat) (x1 : Int32) (x2 : Int32) : Prop :=
  (2 ≤ x2 → post x1 M) ∧ (¬ 2 ≤ x2 → ∃ n, w0_round_14 post (fun (M39 : Mm) (a0_36 : Nat) (x1_37 : Int32) (x2_38 : Int32) => kb M39 a0_36 x1_37 (x2_38 + 1)) n M a0 x1 x2)
def w0_round_9 (post : Int32 → Mm → Prop)  : Nat → Mm → Nat → Int32 → Int32 → Prop
  | 0 => fun _ _ _ _ => False
  | n + 1 => b0_round_9 post  (w0_round_9 post  n)
set_option maxHeartbeats 4000000 in
set_option maxRecDepth 100000 in
theorem r0_round_9 {p : Program} {l : Launch} {e : Env} {s : State} {m : MethodId} {args : Array Value} {below : List Frame} {meth : Method} {c : Code} {g : CG} {AD : Nat → Prop} {M0 : Mm} (S : CallFix p m c cX0_round 3 s args lw_all RX0) (hr : meth.sig.returnType = (some .int)) (hlocks : meth.locks = false) (hK : KC g s) (hA : ∀ q, s.heap.size ≤ q → AD q) {post : Int32 → Mm → Prop}  : ∀ n : Nat, ∀ (M : Mm) (a0 : Nat) (x1 : Int32) (x2 : Int32), w0_round_9 post  n M a0 x1 x2 → Ext M0 M → mK M a0 = 1 → ∀ (H : Heap) (locs : List Loc), HC g AD M H → va_S AD s.heap H locs → ∀ (ls : Array Slot), lv_has ls 3 [(0, .ref a0), (1, .int x1), (2, .int x2)] → W p l e rm0_round s m args below meth c H locs 0 0 (MQ below (CQi g AD M0 post) args s 0 0 AD) (F0 m 9 ls []) := by
  have hx := S.1
  have hb := S.2.1
  have hown := S.2.2.2.1
  have hts := S.2.2.2.2
  intro n
  induction n with
  | zero =>
    intro M a0 x1 x2 hw
    exact hw.elim
  | succ n hkb =>
    intro M a0 x1 x2 hw hE hk_a0 H locs hH hS ls hl
    unfold w0_round_9 b0_round_9 at hw
    refine lv_iload_n hx hb dX0_round_9 rfl (lv_at hl 2 rfl) ?_
    refine lv_iconst (v := 2) hx hb dX0_round_10 (by decide) ?_
    refine lv_icmp_ge (tgt := 72) hx hb dX0_round_11 (by decide) (fun c6 => ?_) (fun c6 => ?_)
    · have hw := hw.1 c6
      refine lv_iload_n hx hb dX0_round_72 rfl (lv_at hl 1 rfl) ?_
      exact co_iret S hr hlocks hH hE hS hw dX0_round_73
    · have hw := hw.2 c6
      obtain ⟨n, hw⟩ := hw
      refine r0_round_14 S hr hlocks hK hA (fun M39 a0_36 x1_37 x2_38 hw hE hk_a0_36 H locs hH hS ls hl => ?_) n _ _ _ _ hw hE hk_a0 _ _ hH hS _ (lv_sub hl [0, 1, 2] rfl)
      refine lv_iinc (v := x2_38 + 1) (lv' := [(2, .int (x2_38 + 1)), (0, .ref a0_36), (1, .int x1_37)]) hx hb dX0_round_66 hl (k := 2) rfl rfl (by decide) rfl (fun ls hl => ?_)
      refine lv_goto (tgt := 9) hx hb dX0_round_69 (by decide) ?_
      exact hkb _ _ _ _ hw hE hk_a0_36 _ _ hH hS _ (lv_sub hl [1, 2, 0] rfl)
def w0_round (post : Int32 → Mm → Prop) (M : Mm) (a0 : Nat) : Prop :=
  w0_tick (fun (r2 : Int32) (M1 : Mm) => ∃ n, w0_round_9 post  n M1 a0 0 0) M a0
set_option maxHeartbeats 4000000 in
set_option maxRecDepth 100000 in
theorem m0_round (l : Launch) (g : CG) (AD : Nat → Prop) (M : Mm) (a0 : Nat) (post : Int32 → Mm → Prop) (hk_a0 : mK M a0 = 1) (hw : w0_round post M a0) : Met l yX0_round (ws_ yX0_round cX0_round 3 (some .int)) rm0_round (CPc g AD M [.ref a0]) (CQi g AD M post) 0 0 AD := by
  refine Met.ofW (cc := cX0_round) (maxL := 3) (ret := (some .int)) (by decide) rfl ?_
  intro p e s m args below meth c s₁ B hml hv
  obtain ⟨rfl, hK, hH, hA⟩ := hv
  have hx := B.exec
  have hb := B.bytes
  have hr : meth.sig.returnType = (some .int) := B.returns
  have hts := atoms_spec (ws := ws_ yX0_round cX0_round 3 (some .int)) B.pre
  have hts : ∀ w ∈ lw_all, w.before _ s = true := fun w h => hts w (List.mem_cons_of_mem _ h)
  have hown : s.vm.findClass RX0 = some m.cls := findClass_of_methodNamed B.named
  have hlocks : meth.locks = false := B.notSynchronized
  have S : CallFix p m c cX0_round 3 s _ lw_all RX0 := ⟨hx, hb, hml, hown, hts⟩
  have hS : va_S AD s.heap s.heap [] := va_S.rf
  have hE : Ext M M := Ext.rf
  have hl := lv_entry ([.ref a0]) (n := 3) (Nat.le_of_ble_eq_true rfl)
  rw [lg_entry_eq]
  generalize (lg_sl ([.ref a0]) ++ List.replicate (3 - (lg_sl ([.ref a0])).length) Slot.unset).toArray = ls at hl ⊢
  have hl : lv_has ls 3 [(0, .ref a0)] := hl
  unfold w0_round at hw
  refine lv_aload_n hx hb dX0_round_0 rfl (lv_at hl 0 rfl) ?_
  refine co_calli (va_runV (As := []) (rest := []) S (m0_tick l g AD M a0 _ hk_a0 hw) (cwV 0 hts (lw_V q620 q550 q551 q54 q552) rfl rfl rfl (by decide +kernel) ⟨Nat.le_of_ble_eq_true rfl, Nat.le_of_ble_eq_true rfl⟩) ⟨co_blind, co_recv hK hH (c := 0) (by decide) hk_a0, co_pre hK hH hA hS⟩ rfl rfl hl.1 rfl (lv_room (Nat.le_of_ble_eq_true rfl)) dX0_round_1 ⟨Nat.le_refl _, Nat.le_refl _⟩) hS (fun r2 M1 H locs hw hH hE3 hS => ?_)
  have hk5 := hE3.k hk_a0 (by decide)
  have hE := hE.tr hE3
  refine lv_pop hx hb dX0_round_4 rfl ?_
  refine lv_iconst (v := 0) hx hb dX0_round_5 (by decide) ?_
  refine lv_istore_n (lv' := [(1, .int 0), (0, .ref a0)]) hx hb dX0_round_6 rfl hl (by decide) rfl (fun ls hl => ?_)
  refine lv_iconst (v := 0) hx hb dX0_round_7 (by decide) ?_
  refine lv_istore_n (lv' := [(2, .int 0), (1, .int 0), (0, .ref a0)]) hx hb dX0_round_8 rfl hl (by decide) rfl (fun ls hl => ?_)
  obtain ⟨n, hw⟩ := hw
  refine r0_round_9 S hr hlocks hK hA  n _ _ _ _ hw hE hk5 _ _ hH hS _ (lv_sub hl [2, 1, 0] rfl)
