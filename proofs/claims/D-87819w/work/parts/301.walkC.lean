/-! FarTypewriter$Lines.takes(ILFarTypewriter$Screen;I)V -/
abbrev rm10_takes : Room := { frames := 6, cells := 0, slots := 0, locals := 289 }
def w10_takes_50 (post : Mm → Prop)  (M : Mm) (a0 : Nat) (x1 : Int32) (a2 : Nat) (x3 : Int32) (t0 : Int32) : Prop :=
  (t0 = 0 → w7_takes (fun (M10 : Mm) => (x1 = 13 → w7_takes (fun (M17 : Mm) => post M17) M10 a0 62 a2 x3) ∧ (¬ x1 = 13 → post M10)) M a0 x1 a2 x3) ∧ (¬ t0 = 0 → post M)
set_option maxHeartbeats 4000000 in
set_option maxRecDepth 100000 in
theorem r10_takes_50 {p : Program} {l : Launch} {e : Env} {s : State} {m : MethodId} {args : Array Value} {below : List Frame} {meth : Method} {c : Code} {g : CG} {AD : Nat → Prop} {M0 : Mm} (S : CallFix p m c cX10_takes 5 s args lw_all RX10) (hr : meth.sig.returnType = none) (hlocks : meth.locks = false) (hK : KC g s) (hA : ∀ q, s.heap.size ≤ q → AD q) {post : Mm → Prop}  : ∀ (M : Mm) (a0 : Nat) (x1 : Int32) (a2 : Nat) (x3 : Int32) (t0 : Int32), w10_takes_50 post  M a0 x1 a2 x3 t0 → Ext M0 M → mK M a0 = 11 → mK M a2 = 6 → ∀ (H : Heap) (locs : List Loc), HC g AD M H → va_S AD s.heap H locs → ∀ (ls : Array Slot), lv_has ls 5 [(0, .ref a0), (1, .int x1), (2, .ref a2), (3, .int x3)] → W p l e rm10_takes s m args below meth c H locs 0 0 (MQ below (CQv g AD M0 post) args s 0 0 AD) (F0 m 50 ls [.int t0]) := by
  have hx := S.1
  have hb := S.2.1
  have hown := S.2.2.2.1
  have hts := S.2.2.2.2
  intro M a0 x1 a2 x3 t0 hw hE hk_a0 hk_a2 H locs hH hS ls hl
  unfold w10_takes_50 at hw
  refine lv_istore (lv' := [(4, .int t0), (0, .ref a0), (1, .int x1), (2, .ref a2), (3, .int x3)]) hx hb dX10_takes_50 hl (by decide) rfl (fun ls hl => ?_)
  refine lv_iload hx hb dX10_takes_52 (lv_at hl 0 rfl) ?_
  refine lv_if_eq (tgt := 58) hx hb dX10_takes_54 (by decide) (fun c9 => ?_) (fun c9 => ?_)
  · have hw := hw.1 c9
    refine lv_aload_n hx hb dX10_takes_58 rfl (lv_at hl 1 rfl) ?_
    refine lv_iload_n hx hb dX10_takes_59 rfl (lv_at hl 2 rfl) ?_
    refine lv_aload_n hx hb dX10_takes_60 rfl (lv_at hl 3 rfl) ?_
    refine lv_iload_n hx hb dX10_takes_61 rfl (lv_at hl 4 rfl) ?_
    refine co_callv (va_runSU (As := [.int x1, .ref a2, .int x3]) (rest := []) (hK.1 10 (by decide)).2 S (m7_takes l g AD M a0 x1 a2 x3 _ hk_a2 hw) (va_cwSU 3 hts (lw_SU q663 q1151 q374 q649 q61 q650) rfl rfl rfl (by decide +kernel) ⟨Nat.le_of_ble_eq_true rfl, Nat.le_of_ble_eq_true rfl⟩) ⟨co_blind, co_recv hK hH (c := 10) (by decide) hk_a0, co_pre hK hH hA hS⟩ rfl rfl hl.1 rfl (lv_room (Nat.le_of_ble_eq_true rfl)) dX10_takes_62 ⟨Nat.le_refl _, Nat.le_refl _⟩) hS (fun M10 H locs hw hH hE12 hS => ?_)
    have hk14 := hE12.k hk_a0 (by decide)
    have hk15 := hE12.k hk_a2 (by decide)
    have hE := hE.tr hE12
    refine lv_iload_n hx hb dX10_takes_65 rfl (lv_at hl 2 rfl) ?_
    refine lv_bipush (v := 13) hx hb dX10_takes_66 (by decide) ?_
    refine lv_icmp_ne (tgt := 79) hx hb dX10_takes_68 (by decide) (fun c16 => ?_) (fun c16 => ?_)
    · have hw := hw.2 c16
      exact co_vret S hr hlocks hH hE hS hw dX10_takes_79
    · have hw := hw.1 c16
      refine lv_aload_n hx hb dX10_takes_71 rfl (lv_at hl 1 rfl) ?_
      refine lv_bipush (v := 62) hx hb dX10_takes_72 (by decide) ?_
      refine lv_aload_n hx hb dX10_takes_74 rfl (lv_at hl 3 rfl) ?_
      refine lv_iload_n hx hb dX10_takes_75 rfl (lv_at hl 4 rfl) ?_
      refine co_callv (va_runSU (As := [.int 62, .ref a2, .int x3]) (rest := []) (hK.1 10 (by decide)).2 S (m7_takes l g AD M10 a0 62 a2 x3 _ hk15 hw) (va_cwSU 3 hts (lw_SU q663 q1151 q374 q649 q61 q650) rfl rfl rfl (by decide +kernel) ⟨Nat.le_of_ble_eq_true rfl, Nat.le_of_ble_eq_true rfl⟩) ⟨co_blind, co_recv hK hH (c := 10) (by decide) hk14, co_pre hK hH hA hS⟩ rfl rfl hl.1 rfl (lv_room (Nat.le_of_ble_eq_true rfl)) dX10_takes_76 ⟨Nat.le_refl _, Nat.le_refl _⟩) hS (fun M17 H locs hw hH hE19 hS => ?_)
      have hk21 := hE19.k hk14 (by decide)
      have hk22 := hE19.k hk15 (by decide)
      have hE := hE.tr hE19
      exact co_vret S hr hlocks hH hE hS hw dX10_takes_79
  · have hw := hw.2 c9
    exact co_vret S hr hlocks hH hE hS hw dX10_takes_57
def w10_takes_45 (post : Mm → Prop)  (M : Mm) (a0 : Nat) (x1 : Int32) (a2 : Nat) (x3 : Int32) : Prop :=
  w10_takes_50 post M a0 x1 a2 x3 1
set_option maxHeartbeats 4000000 in
set_option maxRecDepth 100000 in
theorem r10_takes_45 {p : Program} {l : Launch} {e : Env} {s : State} {m : MethodId} {args : Array Value} {below : List Frame} {meth : Method} {c : Code} {g : CG} {AD : Nat → Prop} {M0 : Mm} (S : CallFix p m c cX10_takes 5 s args lw_all RX10) (hr : meth.sig.returnType = none) (hlocks : meth.locks = false) (hK : KC g s) (hA : ∀ q, s.heap.size ≤ q → AD q) {post : Mm → Prop}  : ∀ (M : Mm) (a0 : Nat) (x1 : Int32) (a2 : Nat) (x3 : Int32), w10_takes_45 post  M a0 x1 a2 x3 → Ext M0 M → mK M a0 = 11 → mK M a2 = 6 → ∀ (H : Heap) (locs : List Loc), HC g AD M H → va_S AD s.heap H locs → ∀ (ls : Array Slot), lv_has ls 5 [(0, .ref a0), (1, .int x1), (2, .ref a2), (3, .int x3)] → W p l e rm10_takes s m args below meth c H locs 0 0 (MQ below (CQv g AD M0 post) args s 0 0 AD) (F0 m 45 ls []) := by
  have hx := S.1
  have hb := S.2.1
  have hown := S.2.2.2.1
  have hts := S.2.2.2.2
  intro M a0 x1 a2 x3 hw hE hk_a0 hk_a2 H locs hH hS ls hl
  unfold w10_takes_45 at hw
  refine lv_iconst (v := 1) hx hb dX10_takes_45 (by decide) ?_
  refine lv_goto (tgt := 50) hx hb dX10_takes_46 (by decide) ?_
  exact r10_takes_50 S hr hlocks hK hA  _ _ _ _ _ _ hw hE hk_a0 hk_a2 _ _ hH hS _ (lv_sub hl [0, 1, 2, 3] rfl)
def w10_takes_49 (post : Mm → Prop)  (M : Mm) (a0 : Nat) (x1 : Int32) (a2 : Nat) (x3 : Int32) : Prop :=
  w10_takes_50 post M a0 x1 a2 x3 0
set_option maxHeartbeats 4000000 in
set_option maxRecDepth 100000 in
theorem r10_takes_49 {p : Program} {l : Launch} {e : Env} {s : State} {m : MethodId} {args : Array Value} {below : List Frame} {meth : Method} {c : Code} {g : CG} {AD : Nat → Prop} {M0 : Mm} (S : CallFix p m c cX10_takes 5 s args lw_all RX10) (hr : meth.sig.returnType = none) (hlocks : meth.locks = false) (hK : KC g s) (hA : ∀ q, s.heap.size ≤ q → AD q) {post : Mm → Prop}  : ∀ (M : Mm) (a0 : Nat) (x1 : Int32) (a2 : Nat) (x3 : Int32), w10_takes_49 post  M a0 x1 a2 x3 → Ext M0 M → mK M a0 = 11 → mK M a2 = 6 → ∀ (H : Heap) (locs : List Loc), HC g AD M H → va_S AD s.heap H locs → ∀ (ls : Array Slot), lv_has ls 5 [(0, .ref a0), (1, .int x1), (2, .ref a2), (3, .int x3)] → W p l e rm10_takes s m args below meth c H locs 0 0 (MQ below (CQv g AD M0 post) args s 0 0 AD) (F0 m 49 ls []) := by
  have hx := S.1
  have hb := S.2.1
  have hown := S.2.2.2.1
  have hts := S.2.2.2.2
  intro M a0 x1 a2 x3 hw hE hk_a0 hk_a2 H locs hH hS ls hl
  unfold w10_takes_49 at hw
  refine lv_iconst (v := 0) hx hb dX10_takes_49 (by decide) ?_
  exact r10_takes_50 S hr hlocks hK hA  _ _ _ _ _ _ hw hE hk_a0 hk_a2 _ _ hH hS _ (lv_sub hl [0, 1, 2, 3] rfl)
def w10_takes_37 (post : Mm → Prop)  (M : Mm) (a0 : Nat) (x1 : Int32) (a2 : Nat) (x3 : Int32) : Prop :=
  (1 < (mI M 603 a2 0) → w10_takes_49 post M a0 x1 a2 x3) ∧ (¬ 1 < (mI M 603 a2 0) → w10_takes_45 post M a0 x1 a2 x3)
set_option maxHeartbeats 4000000 in
set_option maxRecDepth 100000 in
theorem r10_takes_37 {p : Program} {l : Launch} {e : Env} {s : State} {m : MethodId} {args : Array Value} {below : List Frame} {meth : Method} {c : Code} {g : CG} {AD : Nat → Prop} {M0 : Mm} (S : CallFix p m c cX10_takes 5 s args lw_all RX10) (hr : meth.sig.returnType = none) (hlocks : meth.locks = false) (hK : KC g s) (hA : ∀ q, s.heap.size ≤ q → AD q) {post : Mm → Prop}  : ∀ (M : Mm) (a0 : Nat) (x1 : Int32) (a2 : Nat) (x3 : Int32), w10_takes_37 post  M a0 x1 a2 x3 → Ext M0 M → mK M a0 = 11 → mK M a2 = 6 → ∀ (H : Heap) (locs : List Loc), HC g AD M H → va_S AD s.heap H locs → ∀ (ls : Array Slot), lv_has ls 5 [(0, .ref a0), (1, .int x1), (2, .ref a2), (3, .int x3)] → W p l e rm10_takes s m args below meth c H locs 0 0 (MQ below (CQv g AD M0 post) args s 0 0 AD) (F0 m 37 ls []) := by
  have hx := S.1
  have hb := S.2.1
  have hown := S.2.2.2.1
  have hts := S.2.2.2.2
  intro M a0 x1 a2 x3 hw hE hk_a0 hk_a2 H locs hH hS ls hl
  unfold w10_takes_37 at hw
  refine lv_aload_n hx hb dX10_takes_37 rfl (lv_at hl 2 rfl) ?_
  refine co_geti S hK hH 5 3 603 (by decide) ⟨by decide, rfl, rfl, rfl⟩ (Or.inr ⟨_, q157⟩) hk_a2 dX10_takes_38 ?_
  refine lv_iconst (v := 1) hx hb dX10_takes_41 (by decide) ?_
  refine lv_icmp_gt (tgt := 49) hx hb dX10_takes_42 (by decide) (fun c25 => ?_) (fun c25 => ?_)
  · have hw := hw.1 c25
    exact r10_takes_49 S hr hlocks hK hA  _ _ _ _ _ hw hE hk_a0 hk_a2 _ _ hH hS _ (lv_sub hl [0, 1, 2, 3] rfl)
  · have hw := hw.2 c25
    exact r10_takes_45 S hr hlocks hK hA  _ _ _ _ _ hw hE hk_a0 hk_a2 _ _ hH hS _ (lv_sub hl [0, 1, 2, 3] rfl)
def w10_takes_16 (post : Mm → Prop)  (M : Mm) (a0 : Nat) (x1 : Int32) (a2 : Nat) (x3 : Int32) : Prop :=
  (x1 = 1 → w10_takes_45 post M a0 x1 a2 x3) ∧ (¬ x1 = 1 → (x1 = 2 → w10_takes_45 post M a0 x1 a2 x3) ∧ (¬ x1 = 2 → (x1 = 4 → w10_takes_37 post M a0 x1 a2 x3) ∧ (¬ x1 = 4 → (x1 = 8 → w10_takes_37 post M a0 x1 a2 x3) ∧ (¬ x1 = 8 → w10_takes_49 post M a0 x1 a2 x3))))
set_option maxHeartbeats 4000000 in
set_option maxRecDepth 100000 in
theorem r10_takes_16 {p : Program} {l : Launch} {e : Env} {s : State} {m : MethodId} {args : Array Value} {below : List Frame} {meth : Method} {c : Code} {g : CG} {AD : Nat → Prop} {M0 : Mm} (S : CallFix p m c cX10_takes 5 s args lw_all RX10) (hr : meth.sig.returnType = none) (hlocks : meth.locks = false) (hK : KC g s) (hA : ∀ q, s.heap.size ≤ q → AD q) {post : Mm → Prop}  : ∀ (M : Mm) (a0 : Nat) (x1 : Int32) (a2 : Nat) (x3 : Int32), w10_takes_16 post  M a0 x1 a2 x3 → Ext M0 M → mK M a0 = 11 → mK M a2 = 6 → ∀ (H : Heap) (locs : List Loc), HC g AD M H → va_S AD s.heap H locs → ∀ (ls : Array Slot), lv_has ls 5 [(0, .ref a0), (1, .int x1), (2, .ref a2), (3, .int x3)] → W p l e rm10_takes s m args below meth c H locs 0 0 (MQ below (CQv g AD M0 post) args s 0 0 AD) (F0 m 16 ls []) := by
  have hx := S.1
  have hb := S.2.1
  have hown := S.2.2.2.1
  have hts := S.2.2.2.2
  intro M a0 x1 a2 x3 hw hE hk_a0 hk_a2 H locs hH hS ls hl
  unfold w10_takes_16 at hw
  refine lv_iload_n hx hb dX10_takes_16 rfl (lv_at hl 1 rfl) ?_
  refine lv_iconst (v := 1) hx hb dX10_takes_17 (by decide) ?_
  refine lv_icmp_eq (tgt := 45) hx hb dX10_takes_18 (by decide) (fun c8 => ?_) (fun c8 => ?_)
  · have hw := hw.1 c8
    exact r10_takes_45 S hr hlocks hK hA  _ _ _ _ _ hw hE hk_a0 hk_a2 _ _ hH hS _ (lv_sub hl [0, 1, 2, 3] rfl)
  · have hw := hw.2 c8
    refine lv_iload_n hx hb dX10_takes_21 rfl (lv_at hl 1 rfl) ?_
    refine lv_iconst (v := 2) hx hb dX10_takes_22 (by decide) ?_
    refine lv_icmp_eq (tgt := 45) hx hb dX10_takes_23 (by decide) (fun c23 => ?_) (fun c23 => ?_)
    · have hw := hw.1 c23
      exact r10_takes_45 S hr hlocks hK hA  _ _ _ _ _ hw hE hk_a0 hk_a2 _ _ hH hS _ (lv_sub hl [0, 1, 2, 3] rfl)
    · have hw := hw.2 c23
      refine lv_iload_n hx hb dX10_takes_26 rfl (lv_at hl 1 rfl) ?_
      refine lv_iconst (v := 4) hx hb dX10_takes_27 (by decide) ?_
      refine lv_icmp_eq (tgt := 37) hx hb dX10_takes_28 (by decide) (fun c24 => ?_) (fun c24 => ?_)
      · have hw := hw.1 c24
        exact r10_takes_37 S hr hlocks hK hA  _ _ _ _ _ hw hE hk_a0 hk_a2 _ _ hH hS _ (lv_sub hl [0, 1, 2, 3] rfl)
      · have hw := hw.2 c24
        refine lv_iload_n hx hb dX10_takes_31 rfl (lv_at hl 1 rfl) ?_
        refine lv_bipush (v := 8) hx hb dX10_takes_32 (by decide) ?_
        refine lv_icmp_ne (tgt := 49) hx hb dX10_takes_34 (by decide) (fun c26 => ?_) (fun c26 => ?_)
        · have hw := hw.2 c26
          exact r10_takes_49 S hr hlocks hK hA  _ _ _ _ _ hw hE hk_a0 hk_a2 _ _ hH hS _ (lv_sub hl [0, 1, 2, 3] rfl)
        · have hw := hw.1 c26
          exact r10_takes_37 S hr hlocks hK hA  _ _ _ _ _ hw hE hk_a0 hk_a2 _ _ hH hS _ (lv_sub hl [0, 1, 2, 3] rfl)
def w10_takes (post : Mm → Prop) (M : Mm) (a0 : Nat) (x1 : Int32) (a2 : Nat) (x3 : Int32) : Prop :=
  w0_isLetter (fun (r2 : Int32) (M1 : Mm) => (r2 = 0 → w10_takes_16 post M1 a0 x1 a2 x3) ∧ (¬ r2 = 0 → ((mI M1 603 a2 0) = 23 → w10_takes_45 post M1 a0 x1 a2 x3) ∧ (¬ (mI M1 603 a2 0) = 23 → w10_takes_16 post M1 a0 x1 a2 x3))) M x1
set_option maxHeartbeats 4000000 in
set_option maxRecDepth 100000 in
theorem m10_takes (l : Launch) (g : CG) (AD : Nat → Prop) (M : Mm) (a0 : Nat) (x1 : Int32) (a2 : Nat) (x3 : Int32) (post : Mm → Prop) (hk_a0 : mK M a0 = 11) (hk_a2 : mK M a2 = 6) (hw : w10_takes post M a0 x1 a2 x3) : Met l yX10_takes (ws_ yX10_takes cX10_takes 5 none) rm10_takes (CPc g AD M [.ref a0, .int x1, .ref a2, .int x3]) (CQv g AD M post) 0 0 AD := by
  refine Met.ofW (cc := cX10_takes) (maxL := 5) (ret := none) (by decide) rfl ?_
  intro p e s m args below meth c s₁ B hml hv
  obtain ⟨rfl, hK, hH, hA⟩ := hv
  have hx := B.exec
  have hb := B.bytes
  have hr : meth.sig.returnType = none := B.returns
  have hts := atoms_spec (ws := ws_ yX10_takes cX10_takes 5 none) B.pre
  have hts : ∀ w ∈ lw_all, w.before _ s = true := fun w h => hts w (List.mem_cons_of_mem _ h)
  have hown : s.vm.findClass RX10 = some m.cls := findClass_of_methodNamed B.named
  have hlocks : meth.locks = false := B.notSynchronized
  have S : CallFix p m c cX10_takes 5 s _ lw_all RX10 := ⟨hx, hb, hml, hown, hts⟩
  have hS : va_S AD s.heap s.heap [] := va_S.rf
  have hE : Ext M M := Ext.rf
  have hl := lv_entry ([.ref a0, .int x1, .ref a2, .int x3]) (n := 5) (Nat.le_of_ble_eq_true rfl)
  rw [lg_entry_eq]
  generalize (lg_sl ([.ref a0, .int x1, .ref a2, .int x3]) ++ List.replicate (5 - (lg_sl ([.ref a0, .int x1, .ref a2, .int x3])).length) Slot.unset).toArray = ls at hl ⊢
  have hl : lv_has ls 5 [(0, .ref a0), (1, .int x1), (2, .ref a2), (3, .int x3)] := hl
  unfold w10_takes at hw
  refine lv_iload_n hx hb dX10_takes_0 rfl (lv_at hl 1 rfl) ?_
  refine co_calli (va_runSN (As := [.int x1]) (rest := []) S (m0_isLetter l g AD M x1 _ hw) ⟨va_cnB 1 hts (lw_meth q402) rfl rfl rfl (hK.2.2.2.1 _ q662 rfl) (hts _ q54) (by decide +kernel) ⟨Nat.le_of_ble_eq_true rfl, Nat.le_of_ble_eq_true rfl⟩, hts _ q401, trivial⟩ ⟨co_blind, co_pre hK hH hA hS⟩ rfl rfl hl.1 rfl (lv_room (Nat.le_of_ble_eq_true rfl)) dX10_takes_1 ⟨Nat.le_refl _, Nat.le_refl _⟩) hS (fun r2 M1 H locs hw hH hE3 hS => ?_)
  have hk5 := hE3.k hk_a0 (by decide)
  have hk6 := hE3.k hk_a2 (by decide)
  have hE := hE.tr hE3
  refine lv_if_eq (tgt := 16) hx hb dX10_takes_4 (by decide) (fun c7 => ?_) (fun c7 => ?_)
  · have hw := hw.1 c7
    exact r10_takes_16 S hr hlocks hK hA  _ _ _ _ _ hw hE hk5 hk6 _ _ hH hS _ (lv_sub hl [0, 1, 2, 3] rfl)
  · have hw := hw.2 c7
    refine lv_aload_n hx hb dX10_takes_7 rfl (lv_at hl 2 rfl) ?_
    refine co_geti S hK hH 5 3 603 (by decide) ⟨by decide, rfl, rfl, rfl⟩ (Or.inr ⟨_, q157⟩) hk6 dX10_takes_8 ?_
    refine lv_bipush (v := 23) hx hb dX10_takes_11 (by decide) ?_
    refine lv_icmp_eq (tgt := 45) hx hb dX10_takes_13 (by decide) (fun c27 => ?_) (fun c27 => ?_)
    · have hw := hw.1 c27
      exact r10_takes_45 S hr hlocks hK hA  _ _ _ _ _ hw hE hk5 hk6 _ _ hH hS _ (lv_sub hl [0, 1, 2, 3] rfl)
    · have hw := hw.2 c27
      exact r10_takes_16 S hr hlocks hK hA  _ _ _ _ _ hw hE hk5 hk6 _ _ hH hS _ (lv_sub hl [0, 1, 2, 3] rfl)
/-! FarTypewriter$Pass.counted()I -/
abbrev rm11_counted : Room := { frames := 0, cells := 0, slots := 0, locals := 0 }
def w11_counted (post : Int32 → Mm → Prop) (M : Mm) (a0 : Nat) : Prop :=
  post (mI M 1200 a0 0) M
set_option maxHeartbeats 4000000 in
set_option maxRecDepth 100000 in
theorem m11_counted (l : Launch) (g : CG) (AD : Nat → Prop) (M : Mm) (a0 : Nat) (post : Int32 → Mm → Prop) (hk_a0 : mK M a0 = 12) (hw : w11_counted post M a0) : Met l yX11_counted (ws_ yX11_counted cX11_counted 1 (some .int)) rm11_counted (CPc g AD M [.ref a0]) (CQi g AD M post) 0 0 AD := by
  refine Met.ofW (cc := cX11_counted) (maxL := 1) (ret := (some .int)) (by decide) rfl ?_
  intro p e s m args below meth c s₁ B hml hv
  obtain ⟨rfl, hK, hH, hA⟩ := hv
  have hx := B.exec
  have hb := B.bytes
  have hr : meth.sig.returnType = (some .int) := B.returns
  have hts := atoms_spec (ws := ws_ yX11_counted cX11_counted 1 (some .int)) B.pre
  have hts : ∀ w ∈ lw_all, w.before _ s = true := fun w h => hts w (List.mem_cons_of_mem _ h)
  have hown : s.vm.findClass RX11 = some m.cls := findClass_of_methodNamed B.named
  have hlocks : meth.locks = false := B.notSynchronized
  have S : CallFix p m c cX11_counted 1 s _ lw_all RX11 := ⟨hx, hb, hml, hown, hts⟩
  have hS : va_S AD s.heap s.heap [] := va_S.rf
  have hE : Ext M M := Ext.rf
  have hl := lv_entry ([.ref a0]) (n := 1) (Nat.le_of_ble_eq_true rfl)
  rw [lg_entry_eq]
  generalize (lg_sl ([.ref a0]) ++ List.replicate (1 - (lg_sl ([.ref a0])).length) Slot.unset).toArray = ls at hl ⊢
  have hl : lv_has ls 1 [(0, .ref a0)] := hl
  unfold w11_counted at hw
  refine lv_aload_n hx hb dX11_counted_0 rfl (lv_at hl 0 rfl) ?_
  refine co_geti S hK hH 11 0 1200 (by decide) ⟨by decide, rfl, rfl, rfl⟩ (Or.inl q381) hk_a0 dX11_counted_1 ?_
  exact co_iret S hr hlocks hH hE hS hw dX11_counted_4
/-! FarTypewriter$Pass.<init>()V -/
abbrev rm11_init : Room := { frames := 2, cells := 0, slots := 0, locals := 32 }
def w11_init (post : Mm → Prop) (M : Mm) (a0 : Nat) : Prop :=
  w6_init (fun (M1 : Mm) => post M1) M a0
set_option maxHeartbeats 4000000 in
set_option maxRecDepth 100000 in
theorem m11_init (l : Launch) (g : CG) (AD : Nat → Prop) (M : Mm) (a0 : Nat) (post : Mm → Prop) (hk_a0 : mK M a0 = 12) (hw : w11_init post M a0) : Met l yX11_init (ws_ yX11_init cX11_init 1 none) rm11_init (CPc g AD M [.ref a0]) (CQv g AD M post) 0 0 AD := by
  refine Met.ofW (cc := cX11_init) (maxL := 1) (ret := none) (by decide) rfl ?_
  intro p e s m args below meth c s₁ B hml hv
  obtain ⟨rfl, hK, hH, hA⟩ := hv
  have hx := B.exec
  have hb := B.bytes
  have hr : meth.sig.returnType = none := B.returns
  have hts := atoms_spec (ws := ws_ yX11_init cX11_init 1 none) B.pre
  have hts : ∀ w ∈ lw_all, w.before _ s = true := fun w h => hts w (List.mem_cons_of_mem _ h)
  have hown : s.vm.findClass RX11 = some m.cls := findClass_of_methodNamed B.named
  have hlocks : meth.locks = false := B.notSynchronized
  have hin : meth.name = "<init>" := (name_of_methodNamed B.named B.method).1
  have S : CallFix p m c cX11_init 1 s _ lw_all RX11 := ⟨hx, hb, hml, hown, hts⟩
  have hS : va_S AD s.heap s.heap [] := va_S.rf
  have hE : Ext M M := Ext.rf
  have hl := lv_entry ([.ref a0]) (n := 1) (Nat.le_of_ble_eq_true rfl)
  rw [lg_entry_eq]
  generalize (lg_sl ([.ref a0]) ++ List.replicate (1 - (lg_sl ([.ref a0])).length) Slot.unset).toArray = ls at hl ⊢
  have hl : lv_has ls 1 [(0, .ref a0)] := hl
  unfold w11_init at hw
  refine lv_aload_n hx hb dX11_init_0 rfl (lv_at hl 0 rfl) ?_
  refine co_callv (va_runIN (As := []) (rest := []) S (m6_init l g AD M a0 _ hw) ⟨va_cnB 0 hts (lw_meth q201) rfl rfl rfl (hK.2.2.2.1 _ q380 rfl) (hts _ q60) (by decide +kernel) ⟨Nat.le_of_ble_eq_true rfl, Nat.le_of_ble_eq_true rfl⟩, rfl, hts _ q200⟩ ⟨co_blind, co_pre hK hH hA hS⟩ rfl rfl hl.1 rfl (lv_room (Nat.le_of_ble_eq_true rfl)) dX11_init_1 ⟨Nat.le_refl _, Nat.le_refl _⟩) hS (fun M1 H locs hw hH hE3 hS => ?_)
  have hk5 := hE3.k hk_a0 (by decide)
  have hE := hE.tr hE3
  exact co_vret S hr hlocks hH hE hS hw dX11_init_4
/-! FarTypewriter$Pass.isPlain()Z -/
abbrev rm11_isPlain : Room := { frames := 0, cells := 0, slots := 0, locals := 0 }
def w11_isPlain (post : Int32 → Mm → Prop) (M : Mm) (a0 : Nat) : Prop :=
  post 0 M
set_option maxHeartbeats 4000000 in
set_option maxRecDepth 100000 in
theorem m11_isPlain (l : Launch) (g : CG) (AD : Nat → Prop) (M : Mm) (a0 : Nat) (post : Int32 → Mm → Prop) (hw : w11_isPlain post M a0) : Met l yX11_isPlain (ws_ yX11_isPlain cX11_isPlain 1 (some .boolean)) rm11_isPlain (CPc g AD M [.ref a0]) (CQi g AD M post) 0 0 AD := by
  refine Met.ofW (cc := cX11_isPlain) (maxL := 1) (ret := (some .boolean)) (by decide) rfl ?_
  intro p e s m args below meth c s₁ B hml hv
  obtain ⟨rfl, hK, hH, hA⟩ := hv
  have hx := B.exec
  have hb := B.bytes
  have hr : meth.sig.returnType = (some .boolean) := B.returns
  have hts := atoms_spec (ws := ws_ yX11_isPlain cX11_isPlain 1 (some .boolean)) B.pre
  have hts : ∀ w ∈ lw_all, w.before _ s = true := fun w h => hts w (List.mem_cons_of_mem _ h)
  have hown : s.vm.findClass RX11 = some m.cls := findClass_of_methodNamed B.named
  have hlocks : meth.locks = false := B.notSynchronized
  have S : CallFix p m c cX11_isPlain 1 s _ lw_all RX11 := ⟨hx, hb, hml, hown, hts⟩
  have hS : va_S AD s.heap s.heap [] := va_S.rf
  have hE : Ext M M := Ext.rf
  have hl := lv_entry ([.ref a0]) (n := 1) (Nat.le_of_ble_eq_true rfl)
  rw [lg_entry_eq]
  generalize (lg_sl ([.ref a0]) ++ List.replicate (1 - (lg_sl ([.ref a0])).length) Slot.unset).toArray = ls at hl ⊢
  have hl : lv_has ls 1 [(0, .ref a0)] := hl
  unfold w11_isPlain at hw
  refine lv_iconst (v := 0) hx hb dX11_isPlain_0 (by decide) ?_
  exact co_zret S hr hlocks hH hE hS rfl hw dX11_isPlain_1
/-! FarTypewriter$Pass.takes(ILFarTypewriter$Screen;I)V -/
abbrev rm11_takes : Room := { frames := 5, cells := 0, slots := 0, locals := 266 }
def b11_takes_54 (post : Mm → Prop)  (kb : Mm → Nat → Nat → Int32 → Prop) (M : Mm) (a0 : Nat) (a2 : Nat) (x3 : Int32) : Prop :=
  ((mI M 1200 a0 0) ≤ 0 → w5_newLine (fun (M11 : Mm) => post M11) M a2) ∧ (¬ (mI M 1200 a0 0) ≤ 0 → w5_letter (fun (M17 : Mm) => ∀ M23 : Mm, M23 = sI M17 1200 a0 0 ((mI M17 1200 a0 0) - 1) → (kb M23 a0 a2 x3)) M a2 42 x3)
def w11_takes_54 (post : Mm → Prop)  : Nat → Mm → Nat → Nat → Int32 → Prop
  | 0 => fun _ _ _ _ => False
  | n + 1 => b11_takes_54 post  (w11_takes_54 post  n)
set_option maxHeartbeats 4000000 in
set_option maxRecDepth 100000 in
theorem r11_takes_54 {p : Program} {l : Launch} {e : Env} {s : State} {m : MethodId} {args : Array Value} {below : List Frame} {meth : Method} {c : Code} {g : CG} {AD : Nat → Prop} {M0 : Mm} (S : CallFix p m c cX11_takes 4 s args lw_all RX11) (hr : meth.sig.returnType = none) (hlocks : meth.locks = false) (hK : KC g s) (hA : ∀ q, s.heap.size ≤ q → AD q) {post : Mm → Prop}  : ∀ n : Nat, ∀ (M : Mm) (a0 : Nat) (a2 : Nat) (x3 : Int32), w11_takes_54 post  n M a0 a2 x3 → Ext M0 M → mK M a0 = 12 → mK M a2 = 6 → ∀ (H : Heap) (locs : List Loc), HC g AD M H → va_S AD s.heap H locs → ∀ (ls : Array Slot), lv_has ls 4 [(0, .ref a0), (2, .ref a2), (3, .int x3)] → W p l e rm11_takes s m args below meth c H locs 0 0 (MQ below (CQv g AD M0 post) args s 0 0 AD) (F0 m 54 ls []) := by
  have hx := S.1
  have hb := S.2.1
  have hown := S.2.2.2.1
  have hts := S.2.2.2.2
  intro n
  induction n with
  | zero =>
    intro M a0 a2 x3 hw
    exact hw.elim
  | succ n hkb =>
    intro M a0 a2 x3 hw hE hk_a0 hk_a2 H locs hH hS ls hl
    unfold w11_takes_54 b11_takes_54 at hw
    refine lv_aload_n hx hb dX11_takes_54 rfl (lv_at hl 0 rfl) ?_
    refine co_geti S hK hH 11 0 1200 (by decide) ⟨by decide, rfl, rfl, rfl⟩ (Or.inl q381) hk_a0 dX11_takes_55 ?_
    refine lv_if_le (tgt := 81) hx hb dX11_takes_58 (by decide) (fun c10 => ?_) (fun c10 => ?_)
    · have hw := hw.1 c10
      refine lv_aload_n hx hb dX11_takes_81 rfl (lv_at hl 1 rfl) ?_
      refine co_callv (va_runV (As := []) (rest := []) S (m5_newLine l g AD M a2 _ hk_a2 hw) (cwV 0 hts (lw_V q679 q408 q409 q59 q410) rfl rfl rfl (by decide +kernel) ⟨Nat.le_of_ble_eq_true rfl, Nat.le_of_ble_eq_true rfl⟩) ⟨co_blind, co_recv hK hH (c := 5) (by decide) hk_a2, co_pre hK hH hA hS⟩ rfl rfl hl.1 rfl (lv_room (Nat.le_of_ble_eq_true rfl)) dX11_takes_82 ⟨Nat.le_refl _, Nat.le_refl _⟩) hS (fun M11 H locs hw hH hE13 hS => ?_)
      have hk15 := hE13.k hk_a0 (by decide)
      have hk16 := hE13.k hk_a2 (by decide)
      have hE := hE.tr hE13
      exact co_vret S hr hlocks hH hE hS hw dX11_takes_85
    · have hw := hw.2 c10
      refine lv_aload_n hx hb dX11_takes_61 rfl (lv_at hl 1 rfl) ?_
      refine lv_bipush (v := 42) hx hb dX11_takes_62 (by decide) ?_
      refine lv_iload_n hx hb dX11_takes_64 rfl (lv_at hl 2 rfl) ?_
      refine co_callv (va_runV (As := [.int 42, .int x3]) (rest := []) S (m5_letter l g AD M a2 42 x3 _ hk_a2 hw) (cwV 2 hts (lw_V q678 q404 q405 q59 q406) rfl rfl rfl (by decide +kernel) ⟨Nat.le_of_ble_eq_true rfl, Nat.le_of_ble_eq_true rfl⟩) ⟨co_blind, co_recv hK hH (c := 5) (by decide) hk_a2, co_pre hK hH hA hS⟩ rfl rfl hl.1 rfl (lv_room (Nat.le_of_ble_eq_true rfl)) dX11_takes_65 ⟨Nat.le_refl _, Nat.le_refl _⟩) hS (fun M17 H locs hw hH hE19 hS => ?_)
      have hk21 := hE19.k hk_a0 (by decide)
      have hk22 := hE19.k hk_a2 (by decide)
      have hE := hE.tr hE19
      refine lv_aload_n hx hb dX11_takes_68 rfl (lv_at hl 0 rfl) ?_
      refine lv_dup hx hb dX11_takes_69 rfl ?_
      refine co_geti S hK hH 11 0 1200 (by decide) ⟨by decide, rfl, rfl, rfl⟩ (Or.inl q381) hk21 dX11_takes_70 ?_
      refine lv_iconst (v := 1) hx hb dX11_takes_73 (by decide) ?_
      refine lv_isub hx hb dX11_takes_74 ?_
      refine co_puti S hK hH hS 11 0 1200 (by decide) ⟨by decide, rfl, rfl, rfl, rfl⟩ (Or.inl q381) hk21 ⟨rfl, rfl⟩ dX11_takes_75 (fun H locs hH hS => ?_)
      obtain ⟨M23, eM23⟩ : ∃ y : Mm, y = sI M17 1200 a0 0 ((mI M17 1200 a0 0) - 1) := ⟨_, rfl⟩
      have hw := hw M23 eM23
      rw [← eM23] at hH
      have hE24 : Ext M17 M23 := by rw [eM23]; exact Ext.sI
      have hk25 := hE24.k hk21 (by decide)
      have hk26 := hE24.k hk22 (by decide)
      have hE := hE.tr hE24
      refine lv_goto (tgt := 54) hx hb dX11_takes_78 (by decide) ?_
      exact hkb _ _ _ _ hw hE hk25 hk26 _ _ hH hS _ (lv_sub hl [0, 1, 2] rfl)
def w11_takes (post : Mm → Prop) (M : Mm) (a0 : Nat) (x1 : Int32) (a2 : Nat) (x3 : Int32) : Prop :=
  w0_isLetter (fun (r2 : Int32) (M1 : Mm) => (r2 = 0 → (x1 = 8 → ∀ M27 : Mm, M27 = sI M1 1200 a0 0 (if (0 : Int32) < ((mI M1 1200 a0 0) - 1) then ((mI M1 1200 a0 0) - 1) else 0) → (post M27)) ∧ (¬ x1 = 8 → (x1 = 13 → ∃ n, w11_takes_54 post  n M1 a0 a2 x3) ∧ (¬ x1 = 13 → post M1))) ∧ (¬ r2 = 0 → ∀ M31 : Mm, M31 = sI M1 1200 a0 0 (if ((mI M1 1200 a0 0) + 1) < 20 then ((mI M1 1200 a0 0) + 1) else 20) → (post M31))) M x1
set_option maxHeartbeats 4000000 in
set_option maxRecDepth 100000 in
theorem m11_takes (l : Launch) (g : CG) (AD : Nat → Prop) (M : Mm) (a0 : Nat) (x1 : Int32) (a2 : Nat) (x3 : Int32) (post : Mm → Prop) (hk_a0 : mK M a0 = 12) (hk_a2 : mK M a2 = 6) (hw : w11_takes post M a0 x1 a2 x3) : Met l yX11_takes (ws_ yX11_takes cX11_takes 4 none) rm11_takes (CPc g AD M [.ref a0, .int x1, .ref a2, .int x3]) (CQv g AD M post) 0 0 AD := by
  refine Met.ofW (cc := cX11_takes) (maxL := 4) (ret := none) (by decide) rfl ?_
  intro p e s m args below meth c s₁ B hml hv
  obtain ⟨rfl, hK, hH, hA⟩ := hv
  have hx := B.exec
  have hb := B.bytes
  have hr : meth.sig.returnType = none := B.returns
  have hts := atoms_spec (ws := ws_ yX11_takes cX11_takes 4 none) B.pre
  have hts : ∀ w ∈ lw_all, w.before _ s = true := fun w h => hts w (List.mem_cons_of_mem _ h)
  have hown : s.vm.findClass RX11 = some m.cls := findClass_of_methodNamed B.named
  have hlocks : meth.locks = false := B.notSynchronized
  have S : CallFix p m c cX11_takes 4 s _ lw_all RX11 := ⟨hx, hb, hml, hown, hts⟩
  have hS : va_S AD s.heap s.heap [] := va_S.rf
  have hE : Ext M M := Ext.rf
  have hl := lv_entry ([.ref a0, .int x1, .ref a2, .int x3]) (n := 4) (Nat.le_of_ble_eq_true rfl)
  rw [lg_entry_eq]
  generalize (lg_sl ([.ref a0, .int x1, .ref a2, .int x3]) ++ List.replicate (4 - (lg_sl ([.ref a0, .int x1, .ref a2, .int x3])).length) Slot.unset).toArray = ls at hl ⊢
  have hl : lv_has ls 4 [(0, .ref a0), (1, .int x1), (2, .ref a2), (3, .int x3)] := hl
  unfold w11_takes at hw
  refine lv_iload_n hx hb dX11_takes_0 rfl (lv_at hl 1 rfl) ?_
  refine co_calli (va_runSN (As := [.int x1]) (rest := []) S (m0_isLetter l g AD M x1 _ hw) ⟨va_cnB 1 hts (lw_meth q402) rfl rfl rfl (hK.2.2.2.1 _ q673 rfl) (hts _ q54) (by decide +kernel) ⟨Nat.le_of_ble_eq_true rfl, Nat.le_of_ble_eq_true rfl⟩, hts _ q401, trivial⟩ ⟨co_blind, co_pre hK hH hA hS⟩ rfl rfl hl.1 rfl (lv_room (Nat.le_of_ble_eq_true rfl)) dX11_takes_1 ⟨Nat.le_refl _, Nat.le_refl _⟩) hS (fun r2 M1 H locs hw hH hE3 hS => ?_)
  have hk5 := hE3.k hk_a0 (by decide)
  have hk6 := hE3.k hk_a2 (by decide)
  have hE := hE.tr hE3
  refine lv_if_eq (tgt := 25) hx hb dX11_takes_4 (by decide) (fun c7 => ?_) (fun c7 => ?_)
  · have hw := hw.1 c7
    refine lv_iload_n hx hb dX11_takes_25 rfl (lv_at hl 1 rfl) ?_
    refine lv_bipush (v := 8) hx hb dX11_takes_26 (by decide) ?_
    refine lv_icmp_ne (tgt := 48) hx hb dX11_takes_28 (by decide) (fun c8 => ?_) (fun c8 => ?_)
    · have hw := hw.2 c8
      refine lv_iload_n hx hb dX11_takes_48 rfl (lv_at hl 1 rfl) ?_
      refine lv_bipush (v := 13) hx hb dX11_takes_49 (by decide) ?_
      refine lv_icmp_ne (tgt := 85) hx hb dX11_takes_51 (by decide) (fun c9 => ?_) (fun c9 => ?_)
      · have hw := hw.2 c9
        exact co_vret S hr hlocks hH hE hS hw dX11_takes_85
      · have hw := hw.1 c9
        obtain ⟨n, hw⟩ := hw
        refine r11_takes_54 S hr hlocks hK hA  n _ _ _ _ hw hE hk5 hk6 _ _ hH hS _ (lv_sub hl [0, 2, 3] rfl)
    · have hw := hw.1 c8
      refine lv_aload_n hx hb dX11_takes_31 rfl (lv_at hl 0 rfl) ?_
      refine lv_iconst (v := 0) hx hb dX11_takes_32 (by decide) ?_
      refine lv_aload_n hx hb dX11_takes_33 rfl (lv_at hl 0 rfl) ?_
      refine co_geti S hK hH 11 0 1200 (by decide) ⟨by decide, rfl, rfl, rfl⟩ (Or.inl q381) hk5 dX11_takes_34 ?_
      refine lv_iconst (v := 1) hx hb dX11_takes_37 (by decide) ?_
      refine lv_isub hx hb dX11_takes_38 ?_
      refine va_mmax hx hb (S.2.2.1.trans hl.1.symm) hown (hts _ q675) (hts _ q676) (hts _ q68) (hts _ q677) (Nat.le_of_ble_eq_true rfl) (Nat.le_of_ble_eq_true rfl) (Nat.le_of_ble_eq_true rfl) (Nat.le_of_ble_eq_true rfl) dX11_takes_39 ?_
      refine co_puti S hK hH hS 11 0 1200 (by decide) ⟨by decide, rfl, rfl, rfl, rfl⟩ (Or.inl q381) hk5 ⟨rfl, rfl⟩ dX11_takes_42 (fun H locs hH hS => ?_)
      obtain ⟨M27, eM27⟩ : ∃ y : Mm, y = sI M1 1200 a0 0 (if (0 : Int32) < ((mI M1 1200 a0 0) - 1) then ((mI M1 1200 a0 0) - 1) else 0) := ⟨_, rfl⟩
      have hw := hw M27 eM27
      rw [← eM27] at hH
      have hE28 : Ext M1 M27 := by rw [eM27]; exact Ext.sI
      have hk29 := hE28.k hk5 (by decide)
      have hk30 := hE28.k hk6 (by decide)
      have hE := hE.tr hE28
      refine lv_goto (tgt := 85) hx hb dX11_takes_45 (by decide) ?_
      exact co_vret S hr hlocks hH hE hS hw dX11_takes_85
  · have hw := hw.2 c7
    refine lv_aload_n hx hb dX11_takes_7 rfl (lv_at hl 0 rfl) ?_
    refine lv_bipush (v := 20) hx hb dX11_takes_8 (by decide) ?_
    refine lv_aload_n hx hb dX11_takes_10 rfl (lv_at hl 0 rfl) ?_
    refine co_geti S hK hH 11 0 1200 (by decide) ⟨by decide, rfl, rfl, rfl⟩ (Or.inl q381) hk5 dX11_takes_11 ?_
    refine lv_iconst (v := 1) hx hb dX11_takes_14 (by decide) ?_
    refine lv_iadd hx hb dX11_takes_15 ?_
    refine va_mmin hx hb (S.2.2.1.trans hl.1.symm) hown (hts _ q674) (hts _ q547) (hts _ q68) (hts _ q548) (Nat.le_of_ble_eq_true rfl) (Nat.le_of_ble_eq_true rfl) (Nat.le_of_ble_eq_true rfl) (Nat.le_of_ble_eq_true rfl) dX11_takes_16 ?_
    refine co_puti S hK hH hS 11 0 1200 (by decide) ⟨by decide, rfl, rfl, rfl, rfl⟩ (Or.inl q381) hk5 ⟨rfl, rfl⟩ dX11_takes_19 (fun H locs hH hS => ?_)
    obtain ⟨M31, eM31⟩ : ∃ y : Mm, y = sI M1 1200 a0 0 (if ((mI M1 1200 a0 0) + 1) < 20 then ((mI M1 1200 a0 0) + 1) else 20) := ⟨_, rfl⟩
    have hw := hw M31 eM31
    rw [← eM31] at hH
    have hE32 : Ext M1 M31 := by rw [eM31]; exact Ext.sI
    have hk33 := hE32.k hk5 (by decide)
    have hk34 := hE32.k hk6 (by decide)
    have hE := hE.tr hE32
    refine lv_goto (tgt := 85) hx hb dX11_takes_22 (by decide) ?_
    exact co_vret S hr hlocks hH hE hS hw dX11_takes_85
/-! FarTypewriter$Pager.<init>()V -/
abbrev rm12_init : Room := { frames := 2, cells := 0, slots := 0, locals := 32 }
def w12_init (post : Mm → Prop) (M : Mm) (a0 : Nat) : Prop :=
  w6_init (fun (M1 : Mm) => post M1) M a0
set_option maxHeartbeats 4000000 in
set_option maxRecDepth 100000 in
theorem m12_init (l : Launch) (g : CG) (AD : Nat → Prop) (M : Mm) (a0 : Nat) (post : Mm → Prop) (hk_a0 : mK M a0 = 13) (hw : w12_init post M a0) : Met l yX12_init (ws_ yX12_init cX12_init 1 none) rm12_init (CPc g AD M [.ref a0]) (CQv g AD M post) 0 0 AD := by
  refine Met.ofW (cc := cX12_init) (maxL := 1) (ret := none) (by decide) rfl ?_
  intro p e s m args below meth c s₁ B hml hv
  obtain ⟨rfl, hK, hH, hA⟩ := hv
  have hx := B.exec
  have hb := B.bytes
  have hr : meth.sig.returnType = none := B.returns
  have hts := atoms_spec (ws := ws_ yX12_init cX12_init 1 none) B.pre
  have hts : ∀ w ∈ lw_all, w.before _ s = true := fun w h => hts w (List.mem_cons_of_mem _ h)
  have hown : s.vm.findClass RX12 = some m.cls := findClass_of_methodNamed B.named
  have hlocks : meth.locks = false := B.notSynchronized
  have hin : meth.name = "<init>" := (name_of_methodNamed B.named B.method).1
  have S : CallFix p m c cX12_init 1 s _ lw_all RX12 := ⟨hx, hb, hml, hown, hts⟩
  have hS : va_S AD s.heap s.heap [] := va_S.rf
  have hE : Ext M M := Ext.rf
  have hl := lv_entry ([.ref a0]) (n := 1) (Nat.le_of_ble_eq_true rfl)
  rw [lg_entry_eq]
  generalize (lg_sl ([.ref a0]) ++ List.replicate (1 - (lg_sl ([.ref a0])).length) Slot.unset).toArray = ls at hl ⊢
  have hl : lv_has ls 1 [(0, .ref a0)] := hl
  unfold w12_init at hw
  refine lv_aload_n hx hb dX12_init_0 rfl (lv_at hl 0 rfl) ?_
  refine co_callv (va_runIN (As := []) (rest := []) S (m6_init l g AD M a0 _ hw) ⟨va_cnB 0 hts (lw_meth q201) rfl rfl rfl (hK.2.2.2.1 _ q390 rfl) (hts _ q60) (by decide +kernel) ⟨Nat.le_of_ble_eq_true rfl, Nat.le_of_ble_eq_true rfl⟩, rfl, hts _ q200⟩ ⟨co_blind, co_pre hK hH hA hS⟩ rfl rfl hl.1 rfl (lv_room (Nat.le_of_ble_eq_true rfl)) dX12_init_1 ⟨Nat.le_refl _, Nat.le_refl _⟩) hS (fun M1 H locs hw hH hE3 hS => ?_)
  have hk5 := hE3.k hk_a0 (by decide)
  have hE := hE.tr hE3
  exact co_vret S hr hlocks hH hE hS hw dX12_init_4
/-! FarTypewriter$Pager.takes(ILFarTypewriter$Screen;I)V -/
abbrev rm12_takes : Room := { frames := 3, cells := 0, slots := 0, locals := 224 }
def b12_takes_16 (post : Mm → Prop)  (kb : Mm → Int32 → Nat → Int32 → Int32 → Prop) (M : Mm) (x1 : Int32) (a2 : Nat) (x3 : Int32) (x4 : Int32) : Prop :=
  (24 ≤ x4 → ∀ M15 : Mm, M15 = sI M 602 a2 0 7 → (∀ M18 : Mm, M18 = sI M15 603 a2 0 0 → (post M18))) ∧ (¬ 24 ≤ x4 → w5_put (fun (M21 : Mm) => kb M21 x1 a2 x3 (x4 + 1)) M a2 7 x4 x1 x3)
def w12_takes_16 (post : Mm → Prop)  : Nat → Mm → Int32 → Nat → Int32 → Int32 → Prop
  | 0 => fun _ _ _ _ _ => False
  | n + 1 => b12_takes_16 post  (w12_takes_16 post  n)
set_option maxHeartbeats 4000000 in
set_option maxRecDepth 100000 in
theorem r12_takes_16 {p : Program} {l : Launch} {e : Env} {s : State} {m : MethodId} {args : Array Value} {below : List Frame} {meth : Method} {c : Code} {g : CG} {AD : Nat → Prop} {M0 : Mm} (S : CallFix p m c cX12_takes 5 s args lw_all RX12) (hr : meth.sig.returnType = none) (hlocks : meth.locks = false) (hK : KC g s) (hA : ∀ q, s.heap.size ≤ q → AD q) {post : Mm → Prop}  : ∀ n : Nat, ∀ (M : Mm) (x1 : Int32) (a2 : Nat) (x3 : Int32) (x4 : Int32), w12_takes_16 post  n M x1 a2 x3 x4 → Ext M0 M → mK M a2 = 6 → ∀ (H : Heap) (locs : List Loc), HC g AD M H → va_S AD s.heap H locs → ∀ (ls : Array Slot), lv_has ls 5 [(1, .int x1), (2, .ref a2), (3, .int x3), (4, .int x4)] → W p l e rm12_takes s m args below meth c H locs 0 0 (MQ below (CQv g AD M0 post) args s 0 0 AD) (F0 m 16 ls []) := by
  have hx := S.1
  have hb := S.2.1
  have hown := S.2.2.2.1
  have hts := S.2.2.2.2
  intro n
  induction n with
  | zero =>
    intro M x1 a2 x3 x4 hw
    exact hw.elim
  | succ n hkb =>
    intro M x1 a2 x3 x4 hw hE hk_a2 H locs hH hS ls hl
    unfold w12_takes_16 b12_takes_16 at hw
    refine lv_iload hx hb dX12_takes_16 (lv_at hl 3 rfl) ?_
    refine lv_bipush (v := 24) hx hb dX12_takes_18 (by decide) ?_
    refine lv_icmp_ge (tgt := 39) hx hb dX12_takes_20 (by decide) (fun c14 => ?_) (fun c14 => ?_)
    · have hw := hw.1 c14
      refine lv_aload_n hx hb dX12_takes_39 rfl (lv_at hl 1 rfl) ?_
      refine lv_bipush (v := 7) hx hb dX12_takes_40 (by decide) ?_
      refine co_puti S hK hH hS 5 2 602 (by decide) ⟨by decide, rfl, rfl, rfl, rfl⟩ (Or.inr ⟨_, q153⟩) hk_a2 ⟨rfl, rfl⟩ dX12_takes_42 (fun H locs hH hS => ?_)
      obtain ⟨M15, eM15⟩ : ∃ y : Mm, y = sI M 602 a2 0 7 := ⟨_, rfl⟩
      have hw := hw M15 eM15
      rw [← eM15] at hH
      have hE16 : Ext M M15 := by rw [eM15]; exact Ext.sI
      have hk17 := hE16.k hk_a2 (by decide)
      have hE := hE.tr hE16
      refine lv_aload_n hx hb dX12_takes_45 rfl (lv_at hl 1 rfl) ?_
      refine lv_iconst (v := 0) hx hb dX12_takes_46 (by decide) ?_
      refine co_puti S hK hH hS 5 3 603 (by decide) ⟨by decide, rfl, rfl, rfl, rfl⟩ (Or.inr ⟨_, q158⟩) hk17 ⟨rfl, rfl⟩ dX12_takes_47 (fun H locs hH hS => ?_)
      obtain ⟨M18, eM18⟩ : ∃ y : Mm, y = sI M15 603 a2 0 0 := ⟨_, rfl⟩
      have hw := hw M18 eM18
      rw [← eM18] at hH
      have hE19 : Ext M15 M18 := by rw [eM18]; exact Ext.sI
      have hk20 := hE19.k hk17 (by decide)
      have hE := hE.tr hE19
      exact co_vret S hr hlocks hH hE hS hw dX12_takes_50
    · have hw := hw.2 c14
      refine lv_aload_n hx hb dX12_takes_23 rfl (lv_at hl 1 rfl) ?_
      refine lv_bipush (v := 7) hx hb dX12_takes_24 (by decide) ?_
      refine lv_iload hx hb dX12_takes_26 (lv_at hl 3 rfl) ?_
      refine lv_iload_n hx hb dX12_takes_28 rfl (lv_at hl 0 rfl) ?_
      refine lv_iload_n hx hb dX12_takes_29 rfl (lv_at hl 2 rfl) ?_
      refine co_callv (va_runV (As := [.int 7, .int x4, .int x1, .int x3]) (rest := []) S (m5_put l g AD M a2 7 x4 x1 x3 _ hk_a2 hw) (cwV 4 hts (lw_V q669 q145 q146 q59 q147) rfl rfl rfl (by decide +kernel) ⟨Nat.le_of_ble_eq_true rfl, Nat.le_of_ble_eq_true rfl⟩) ⟨co_blind, co_recv hK hH (c := 5) (by decide) hk_a2, co_pre hK hH hA hS⟩ rfl rfl hl.1 rfl (lv_room (Nat.le_of_ble_eq_true rfl)) dX12_takes_30 ⟨Nat.le_refl _, Nat.le_refl _⟩) hS (fun M21 H locs hw hH hE23 hS => ?_)
      have hk25 := hE23.k hk_a2 (by decide)
      have hE := hE.tr hE23
      refine lv_iinc (v := x4 + 1) (lv' := [(4, .int (x4 + 1)), (1, .int x1), (2, .ref a2), (3, .int x3)]) hx hb dX12_takes_33 hl (k := 3) rfl rfl (by decide) rfl (fun ls hl => ?_)
      refine lv_goto (tgt := 16) hx hb dX12_takes_36 (by decide) ?_
      exact hkb _ _ _ _ _ hw hE hk25 _ _ hH hS _ (lv_sub hl [1, 2, 3, 0] rfl)
def w12_takes (post : Mm → Prop) (M : Mm) (a0 : Nat) (x1 : Int32) (a2 : Nat) (x3 : Int32) : Prop :=
  w0_isLetter (fun (r2 : Int32) (M1 : Mm) => (r2 = 0 → post M1) ∧ (¬ r2 = 0 → w5_scroll (fun (M8 : Mm) => ∃ n, w12_takes_16 post  n M8 x1 a2 x3 0) M1 a2 1)) M x1
set_option maxHeartbeats 4000000 in
set_option maxRecDepth 100000 in
theorem m12_takes (l : Launch) (g : CG) (AD : Nat → Prop) (M : Mm) (a0 : Nat) (x1 : Int32) (a2 : Nat) (x3 : Int32) (post : Mm → Prop) (hk_a0 : mK M a0 = 13) (hk_a2 : mK M a2 = 6) (hw : w12_takes post M a0 x1 a2 x3) : Met l yX12_takes (ws_ yX12_takes cX12_takes 5 none) rm12_takes (CPc g AD M [.ref a0, .int x1, .ref a2, .int x3]) (CQv g AD M post) 0 0 AD := by
  refine Met.ofW (cc := cX12_takes) (maxL := 5) (ret := none) (by decide) rfl ?_
  intro p e s m args below meth c s₁ B hml hv
  obtain ⟨rfl, hK, hH, hA⟩ := hv
  have hx := B.exec
  have hb := B.bytes
  have hr : meth.sig.returnType = none := B.returns
  have hts := atoms_spec (ws := ws_ yX12_takes cX12_takes 5 none) B.pre
  have hts : ∀ w ∈ lw_all, w.before _ s = true := fun w h => hts w (List.mem_cons_of_mem _ h)
  have hown : s.vm.findClass RX12 = some m.cls := findClass_of_methodNamed B.named
  have hlocks : meth.locks = false := B.notSynchronized
  have S : CallFix p m c cX12_takes 5 s _ lw_all RX12 := ⟨hx, hb, hml, hown, hts⟩
  have hS : va_S AD s.heap s.heap [] := va_S.rf
  have hE : Ext M M := Ext.rf
  have hl := lv_entry ([.ref a0, .int x1, .ref a2, .int x3]) (n := 5) (Nat.le_of_ble_eq_true rfl)
  rw [lg_entry_eq]
  generalize (lg_sl ([.ref a0, .int x1, .ref a2, .int x3]) ++ List.replicate (5 - (lg_sl ([.ref a0, .int x1, .ref a2, .int x3])).length) Slot.unset).toArray = ls at hl ⊢
  have hl : lv_has ls 5 [(0, .ref a0), (1, .int x1), (2, .ref a2), (3, .int x3)] := hl
  unfold w12_takes at hw
  refine lv_iload_n hx hb dX12_takes_0 rfl (lv_at hl 1 rfl) ?_
  refine co_calli (va_runSN (As := [.int x1]) (rest := []) S (m0_isLetter l g AD M x1 _ hw) ⟨va_cnB 1 hts (lw_meth q402) rfl rfl rfl (hK.2.2.2.1 _ q667 rfl) (hts _ q54) (by decide +kernel) ⟨Nat.le_of_ble_eq_true rfl, Nat.le_of_ble_eq_true rfl⟩, hts _ q401, trivial⟩ ⟨co_blind, co_pre hK hH hA hS⟩ rfl rfl hl.1 rfl (lv_room (Nat.le_of_ble_eq_true rfl)) dX12_takes_1 ⟨Nat.le_refl _, Nat.le_refl _⟩) hS (fun r2 M1 H locs hw hH hE3 hS => ?_)
  have hk5 := hE3.k hk_a0 (by decide)
  have hk6 := hE3.k hk_a2 (by decide)
  have hE := hE.tr hE3
  refine lv_if_ne (tgt := 8) hx hb dX12_takes_4 (by decide) (fun c7 => ?_) (fun c7 => ?_)
  · have hw := hw.2 c7
    refine lv_aload_n hx hb dX12_takes_8 rfl (lv_at hl 2 rfl) ?_
    refine lv_iconst (v := 1) hx hb dX12_takes_9 (by decide) ?_
    refine co_callv (va_runV (As := [.int 1]) (rest := []) S (m5_scroll l g AD M1 a2 1 _ hk6 hw) (cwV 1 hts (lw_V q668 q412 q413 q59 q414) rfl rfl rfl (by decide +kernel) ⟨Nat.le_of_ble_eq_true rfl, Nat.le_of_ble_eq_true rfl⟩) ⟨co_blind, co_recv hK hH (c := 5) (by decide) hk6, co_pre hK hH hA hS⟩ rfl rfl hl.1 rfl (lv_room (Nat.le_of_ble_eq_true rfl)) dX12_takes_10 ⟨Nat.le_refl _, Nat.le_refl _⟩) hS (fun M8 H locs hw hH hE10 hS => ?_)
    have hk12 := hE10.k hk5 (by decide)
    have hk13 := hE10.k hk6 (by decide)
    have hE := hE.tr hE10
    refine lv_iconst (v := 0) hx hb dX12_takes_13 (by decide) ?_
    refine lv_istore (lv' := [(4, .int 0), (0, .ref a0), (1, .int x1), (2, .ref a2), (3, .int x3)]) hx hb dX12_takes_14 hl (by decide) rfl (fun ls hl => ?_)
    obtain ⟨n, hw⟩ := hw
    refine r12_takes_16 S hr hlocks hK hA  n _ _ _ _ _ hw hE hk13 _ _ hH hS _ (lv_sub hl [2, 3, 4, 0] rfl)
  · have hw := hw.1 c7
    exact co_vret S hr hlocks hH hE hS hw dX12_takes_7
/-! FarTypewriter$Line.goes(I)V -/
abbrev rm1_goes : Room := { frames := 1, cells := 0, slots := 0, locals := 200 }
def w1_goes (post : Mm → Prop) (M : Mm) (a0 : Nat) (x1 : Int32) : Prop :=
  mK M (mP M 200 a0 0) = 26 ∧ (vp_in x1 40 ∧ (mK M (mP M 26 (mP M 200 a0 0) x1.toNatClampNeg) = 3 ∧ (mK M (mP M 200 a0 0) = 26 ∧ (mK M (mP M 200 a0 0) = 26 ∧ (¬ (x1 + 1) < 0 ∧ (¬ x1 < 0 ∧ (¬ (((40 : Int32) - x1) - 1) < 0 ∧ ((x1 + 1).toNatClampNeg + (((40 : Int32) - x1) - 1).toNatClampNeg ≤ 40 ∧ (x1.toNatClampNeg + (((40 : Int32) - x1) - 1).toNatClampNeg ≤ 40 ∧ ((∀ i12 : Nat, i12 < (((40 : Int32) - x1) - 1).toNatClampNeg → mK M (mP M 26 (mP M 200 a0 0) ((x1 + 1).toNatClampNeg + i12)) = 3) ∧ (∀ M13 : Mm, M13 = cP M 26 (mP M 200 a0 0) (mP M 200 a0 0) (x1 + 1).toNatClampNeg x1.toNatClampNeg (((40 : Int32) - x1) - 1).toNatClampNeg → (mK M13 (mP M13 200 a0 0) = 26 ∧ (vp_in 39 40 ∧ (∀ M19 : Mm, M19 = sP M13 26 (mP M13 200 a0 0) (39 : Int32).toNatClampNeg (mP M 26 (mP M 200 a0 0) x1.toNatClampNeg) → (∀ M23 : Mm, M23 = sI M19 201 a0 0 ((mI M19 201 a0 0) - 1) → (post M23))))))))))))))))
set_option maxHeartbeats 4000000 in
set_option maxRecDepth 100000 in
theorem m1_goes (l : Launch) (g : CG) (AD : Nat → Prop) (M : Mm) (a0 : Nat) (x1 : Int32) (post : Mm → Prop) (hk_a0 : mK M a0 = 2) (hw : w1_goes post M a0 x1) : Met l yX1_goes (ws_ yX1_goes cX1_goes 3 none) rm1_goes (CPc g AD M [.ref a0, .int x1]) (CQv g AD M post) 0 0 AD := by
  refine Met.ofW (cc := cX1_goes) (maxL := 3) (ret := none) (by decide) rfl ?_
  intro p e s m args below meth c s₁ B hml hv
  obtain ⟨rfl, hK, hH, hA⟩ := hv
  have hx := B.exec
  have hb := B.bytes
  have hr : meth.sig.returnType = none := B.returns
  have hts := atoms_spec (ws := ws_ yX1_goes cX1_goes 3 none) B.pre
  have hts : ∀ w ∈ lw_all, w.before _ s = true := fun w h => hts w (List.mem_cons_of_mem _ h)
  have hown : s.vm.findClass RX1 = some m.cls := findClass_of_methodNamed B.named
  have hlocks : meth.locks = false := B.notSynchronized
  have S : CallFix p m c cX1_goes 3 s _ lw_all RX1 := ⟨hx, hb, hml, hown, hts⟩
  have hS : va_S AD s.heap s.heap [] := va_S.rf
  have hE : Ext M M := Ext.rf
  have hl := lv_entry ([.ref a0, .int x1]) (n := 3) (Nat.le_of_ble_eq_true rfl)
  rw [lg_entry_eq]
  generalize (lg_sl ([.ref a0, .int x1]) ++ List.replicate (3 - (lg_sl ([.ref a0, .int x1])).length) Slot.unset).toArray = ls at hl ⊢
  have hl : lv_has ls 3 [(0, .ref a0), (1, .int x1)] := hl
  unfold w1_goes at hw
  refine lv_aload_n hx hb dX1_goes_0 rfl (lv_at hl 0 rfl) ?_
  have hk1 := hw.1
  have hw := hw.2
  refine co_getr S hK hH 1 0 200 (by decide) ⟨by decide, rfl, rfl, rfl⟩ (Or.inl q108) hk_a0 (by rw [hk1]; decide) dX1_goes_1 ?_
  refine lv_iload_n hx hb dX1_goes_4 rfl (lv_at hl 1 rfl) ?_
  have hin2 := hw.1
  have hw := hw.2
  have hk3 := hw.1
  have hw := hw.2
  refine co_aald S hK hH 6 26 ⟨by decide, rfl, rfl⟩ hk1 hin2 (by rw [hk3]; decide) dX1_goes_5 ?_
  refine lv_astore_n (lv' := [(2, .ref (mP M 26 (mP M 200 a0 0) x1.toNatClampNeg)), (0, .ref a0), (1, .int x1)]) hx hb dX1_goes_6 rfl hl (by decide) rfl (fun ls hl => ?_)
  refine lv_aload_n hx hb dX1_goes_7 rfl (lv_at hl 1 rfl) ?_
  have hk4 := hw.1
  have hw := hw.2
  refine co_getr S hK hH 1 0 200 (by decide) ⟨by decide, rfl, rfl, rfl⟩ (Or.inl q108) hk_a0 (by rw [hk4]; decide) dX1_goes_8 ?_
  refine lv_iload_n hx hb dX1_goes_11 rfl (lv_at hl 2 rfl) ?_
  refine lv_iconst (v := 1) hx hb dX1_goes_12 (by decide) ?_
  refine lv_iadd hx hb dX1_goes_13 ?_
  refine lv_aload_n hx hb dX1_goes_14 rfl (lv_at hl 1 rfl) ?_
  have hk5 := hw.1
  have hw := hw.2
  refine co_getr S hK hH 1 0 200 (by decide) ⟨by decide, rfl, rfl, rfl⟩ (Or.inl q108) hk_a0 (by rw [hk5]; decide) dX1_goes_15 ?_
  refine lv_iload_n hx hb dX1_goes_18 rfl (lv_at hl 2 rfl) ?_
  refine lv_bipush (v := 40) hx hb dX1_goes_19 (by decide) ?_
  refine lv_iload_n hx hb dX1_goes_21 rfl (lv_at hl 2 rfl) ?_
  refine lv_isub hx hb dX1_goes_22 ?_
  refine lv_iconst (v := 1) hx hb dX1_goes_23 (by decide) ?_
  refine lv_isub hx hb dX1_goes_24 ?_
  have hg6 := hw.1
  have hw := hw.2
  have hg7 := hw.1
  have hw := hw.2
  have hg8 := hw.1
  have hw := hw.2
  have hg9 := hw.1
  have hw := hw.2
  have hg10 := hw.1
  have hw := hw.2
  have hg11 := hw.1
  have hw := hw.2
  refine co_copyr S hK hH hS hl.1 6 26 ⟨by decide, rfl, rfl⟩ hk4 hk5 q625 q252 q251 q63 hg6 hg7 hg8 hg9 hg10 (fun i h => Or.inr ⟨2, by decide, hg11 i h, rfl⟩) (fun _ => rfl) (Nat.le_of_ble_eq_true rfl) (by decide) dX1_goes_25 (fun H locs hH hS => ?_)
  obtain ⟨M13, eM13⟩ : ∃ y : Mm, y = cP M 26 (mP M 200 a0 0) (mP M 200 a0 0) (x1 + 1).toNatClampNeg x1.toNatClampNeg (((40 : Int32) - x1) - 1).toNatClampNeg := ⟨_, rfl⟩
  have hw := hw M13 eM13
  rw [← eM13] at hH
  have hE14 : Ext M M13 := by rw [eM13]; exact Ext.cP
  have hk15 := hE14.k hk_a0 (by decide)
  have hk16 := hE14.k hk3 (by decide)
  have hE := hE.tr hE14
  refine lv_aload_n hx hb dX1_goes_28 rfl (lv_at hl 1 rfl) ?_
  have hk17 := hw.1
  have hw := hw.2
  refine co_getr S hK hH 1 0 200 (by decide) ⟨by decide, rfl, rfl, rfl⟩ (Or.inl q108) hk15 (by rw [hk17]; decide) dX1_goes_29 ?_
  refine lv_bipush (v := 39) hx hb dX1_goes_32 (by decide) ?_
  refine lv_aload_n hx hb dX1_goes_34 rfl (lv_at hl 0 rfl) ?_
  have hin18 := hw.1
  have hw := hw.2
  refine co_aast S hK hH hS 6 26 ⟨by decide, rfl, rfl⟩ hk17 (Or.inr ⟨2, by decide, hk16, rfl⟩) hin18 dX1_goes_35 (fun H locs hH hS => ?_)
  obtain ⟨M19, eM19⟩ : ∃ y : Mm, y = sP M13 26 (mP M13 200 a0 0) (39 : Int32).toNatClampNeg (mP M 26 (mP M 200 a0 0) x1.toNatClampNeg) := ⟨_, rfl⟩
  have hw := hw M19 eM19
  rw [← eM19] at hH
  have hE20 : Ext M13 M19 := by rw [eM19]; exact Ext.sP
  have hk21 := hE20.k hk15 (by decide)
  have hk22 := hE20.k hk16 (by decide)
  have hE := hE.tr hE20
  refine lv_aload_n hx hb dX1_goes_36 rfl (lv_at hl 1 rfl) ?_
  refine lv_dup hx hb dX1_goes_37 rfl ?_
  refine co_geti S hK hH 1 1 201 (by decide) ⟨by decide, rfl, rfl, rfl⟩ (Or.inl q110) hk21 dX1_goes_38 ?_
  refine lv_iconst (v := 1) hx hb dX1_goes_41 (by decide) ?_
  refine lv_isub hx hb dX1_goes_42 ?_
  refine co_puti S hK hH hS 1 1 201 (by decide) ⟨by decide, rfl, rfl, rfl, rfl⟩ (Or.inl q110) hk21 ⟨rfl, rfl⟩ dX1_goes_43 (fun H locs hH hS => ?_)
  obtain ⟨M23, eM23⟩ : ∃ y : Mm, y = sI M19 201 a0 0 ((mI M19 201 a0 0) - 1) := ⟨_, rfl⟩
  have hw := hw M23 eM23
  rw [← eM23] at hH
  have hE24 : Ext M19 M23 := by rw [eM23]; exact Ext.sI
  have hk25 := hE24.k hk21 (by decide)
  have hk26 := hE24.k hk22 (by decide)
  have hE := hE.tr hE24
  exact co_vret S hr hlocks hH hE hS hw dX1_goes_46
/-! FarTypewriter$Letter.<init>()V -/
abbrev rm2_init : Room := { frames := 1, cells := 1, slots := 1100, locals := 12 }
def w2_init (post : Mm → Prop) (M : Mm) (a0 : Nat) : Prop :=
  ∀ M2 : Mm, M2 = sN M 22 → (∀ M5 : Mm, M5 = sP M2 300 a0 0 (mZ M) → (post M5))
set_option maxHeartbeats 4000000 in
set_option maxRecDepth 100000 in
theorem m2_init (l : Launch) (g : CG) (AD : Nat → Prop) (M : Mm) (a0 : Nat) (post : Mm → Prop) (hk_a0 : mK M a0 = 3) (hw : w2_init post M a0) : Met l yX2_init (ws_ yX2_init cX2_init 1 none) rm2_init (CPc g AD M [.ref a0]) (CQv g AD M post) 1 1100 AD := by
  refine Met.ofW (cc := cX2_init) (maxL := 1) (ret := none) (by decide) rfl ?_
  intro p e s m args below meth c s₁ B hml hv
  obtain ⟨rfl, hK, hH, hA⟩ := hv
  have hx := B.exec
  have hb := B.bytes
  have hr : meth.sig.returnType = none := B.returns
  have hts := atoms_spec (ws := ws_ yX2_init cX2_init 1 none) B.pre
  have hts : ∀ w ∈ lw_all, w.before _ s = true := fun w h => hts w (List.mem_cons_of_mem _ h)
  have hown : s.vm.findClass RX2 = some m.cls := findClass_of_methodNamed B.named
  have hlocks : meth.locks = false := B.notSynchronized
  have hin : meth.name = "<init>" := (name_of_methodNamed B.named B.method).1
  have S : CallFix p m c cX2_init 1 s _ lw_all RX2 := ⟨hx, hb, hml, hown, hts⟩
  have hS : va_S AD s.heap s.heap [] := va_S.rf
  have hE : Ext M M := Ext.rf
  have hl := lv_entry ([.ref a0]) (n := 1) (Nat.le_of_ble_eq_true rfl)
  rw [lg_entry_eq]
  generalize (lg_sl ([.ref a0]) ++ List.replicate (1 - (lg_sl ([.ref a0])).length) Slot.unset).toArray = ls at hl ⊢
  have hl : lv_has ls 1 [(0, .ref a0)] := hl
  unfold w2_init at hw
  refine lv_aload_n hx hb dX2_init_0 rfl (lv_at hl 0 rfl) ?_
  refine W.objInit hx hb hown (hts _ q96) (hts _ q81) (hts _ q82) rfl (by rw [S.2.2.1]; exact hl.1) rfl dX2_init_1 (Nat.le_of_ble_eq_true rfl) (Nat.le_of_ble_eq_true rfl) ?_
  refine W.eq (g2 := F0 m 4 ls []) rfl ?_
  refine lv_aload_n hx hb dX2_init_4 rfl (lv_at hl 0 rfl) ?_
  refine lv_sipush (v := 1100) hx hb dX2_init_5 (by decide) ?_
  have hE1 := Ext.new hH 22
  refine co_newp (atype := .byte) S hK hH hS hA 2 22 ⟨by decide, rfl, rfl, rfl, rfl⟩ q107 (n := 1100) ⟨by decide, by decide⟩ (by decide) (Nat.le_of_ble_eq_true rfl) (Nat.le_of_ble_eq_true rfl) dX2_init_8 (fun H hH hS => ?_)
  obtain ⟨M2, eM2⟩ : ∃ y : Mm, y = sN M 22 := ⟨_, rfl⟩
  have hw := hw M2 eM2
  rw [← eM2] at hH hE1
  have hk3 := hE1.k hk_a0 (by decide)
  have hE := hE.tr hE1
  have hk4 : mK M2 (mZ M) = 22 := by rw [eM2]; exact mK_new M 22
  refine co_putF S hin hK hH hS 2 0 300 (by decide) ⟨by decide, rfl, rfl, rfl, rfl⟩ rfl q97 hk3 (by rw [hk4]; decide) ⟨rfl, rfl⟩ dX2_init_10 (fun H locs hH hS => ?_)
  obtain ⟨M5, eM5⟩ : ∃ y : Mm, y = sP M2 300 a0 0 (mZ M) := ⟨_, rfl⟩
  have hw := hw M5 eM5
  rw [← eM5] at hH
  have hE6 : Ext M2 M5 := by rw [eM5]; exact Ext.sP
  have hk7 := hE6.k hk3 (by decide)
  have hE := hE.tr hE6
  exact co_vret S hr hlocks hH hE hS hw dX2_init_13
/-! FarTypewriter$Line.<init>()V -/
abbrev rm1_init : Room := { frames := 2, cells := 83, slots := 45222, locals := 32 }
def b1_init_15 (post : Mm → Prop)  (kb : Mm → Nat → Int32 → Prop) (M : Mm) (a0 : Nat) (x1 : Int32) : Prop :=
  (40 ≤ x1 → post M) ∧ (¬ 40 ≤ x1 → mK M (mP M 200 a0 0) = 26 ∧ (∀ M11 : Mm, M11 = sN M 3 → (w2_init (fun (M15 : Mm) => vp_in x1 40 ∧ (∀ M23 : Mm, M23 = sP M15 26 (mP M 200 a0 0) x1.toNatClampNeg (mZ M) → (kb M23 a0 (x1 + 1)))) M11 (mZ M))))
def w1_init_15 (post : Mm → Prop)  : Nat → Mm → Nat → Int32 → Prop
  | 0 => fun _ _ _ => False
  | n + 1 => b1_init_15 post  (w1_init_15 post  n)
set_option maxHeartbeats 4000000 in
set_option maxRecDepth 100000 in
theorem r1_init_15 {p : Program} {l : Launch} {e : Env} {s : State} {m : MethodId} {args : Array Value} {below : List Frame} {meth : Method} {c : Code} {g : CG} {AD : Nat → Prop} {M0 : Mm} (S : CallFix p m c cX1_init 2 s args lw_all RX1) (hr : meth.sig.returnType = none) (hlocks : meth.locks = false) (hK : KC g s) (hA : ∀ q, s.heap.size ≤ q → AD q) (hin : meth.name = "<init>") {post : Mm → Prop}  : ∀ n cl sl : Nat, cl + n * 2 ≤ 83 → sl + n * 1102 ≤ 45222 → ∀ (M : Mm) (a0 : Nat) (x1 : Int32), w1_init_15 post  n M a0 x1 → Ext M0 M → mK M a0 = 2 → ∀ (H : Heap) (locs : List Loc), HC g AD M H → va_S AD s.heap H locs → ∀ (ls : Array Slot), lv_has ls 2 [(0, .ref a0), (1, .int x1)] → W p l e rm1_init s m args below meth c H locs cl sl (MQ below (CQv g AD M0 post) args s 83 45222 AD) (F0 m 15 ls []) := by
  have hx := S.1
  have hb := S.2.1
  have hown := S.2.2.2.1
  have hts := S.2.2.2.2
  intro n
  induction n with
  | zero =>
    intro cl sl hcl hsl M a0 x1 hw
    exact hw.elim
  | succ n hkb =>
    intro cl sl hcl hsl M a0 x1 hw hE hk_a0 H locs hH hS ls hl
    unfold w1_init_15 b1_init_15 at hw
    refine lv_iload_n hx hb dX1_init_15 rfl (lv_at hl 1 rfl) ?_
    refine lv_bipush (v := 40) hx hb dX1_init_16 (by decide) ?_
    refine lv_icmp_ge (tgt := 40) hx hb dX1_init_18 (by decide) (fun c8 => ?_) (fun c8 => ?_)
    · have hw := hw.1 c8
      refine W.widen (k := 83) (n := 45222) (by have q2 : ckN 2 = 2 := rfl; have q4 : ckN 4 = 3 := rfl; have q8 : ckN 8 = 7 := rfl; omega) (by have q2 : ckN 2 = 2 := rfl; have q4 : ckN 4 = 3 := rfl; have q8 : ckN 8 = 7 := rfl; omega) ?_
      exact co_vret S hr hlocks hH hE hS hw dX1_init_40
    · have hw := hw.2 c8
      refine lv_aload_n hx hb dX1_init_21 rfl (lv_at hl 0 rfl) ?_
      have hk9 := hw.1
      have hw := hw.2
      refine co_getr S hK hH 1 0 200 (by decide) ⟨by decide, rfl, rfl, rfl⟩ (Or.inl q108) hk_a0 (by rw [hk9]; decide) dX1_init_22 ?_
      refine lv_iload_n hx hb dX1_init_25 rfl (lv_at hl 1 rfl) ?_
      have hE10 := Ext.new hH 3
      refine co_new S hK hH hS hA 2 3 (by decide) rfl q90 q92 q56 (by decide) (by have q2 : ckN 2 = 2 := rfl; have q4 : ckN 4 = 3 := rfl; have q8 : ckN 8 = 7 := rfl; show _ ≤ 83; omega) (by have q2 : ckN 2 = 2 := rfl; have q4 : ckN 4 = 3 := rfl; have q8 : ckN 8 = 7 := rfl; show _ ≤ 45222; omega) dX1_init_26 (fun H hH hS => ?_)
      obtain ⟨M11, eM11⟩ : ∃ y : Mm, y = sN M 3 := ⟨_, rfl⟩
      have hw := hw M11 eM11
      rw [← eM11] at hH hE10
      have hk12 := hE10.k hk_a0 (by decide)
      have hk13 := hE10.k hk9 (by decide)
      have hE := hE.tr hE10
      have hk14 : mK M11 (mZ M) = 3 := by rw [eM11]; exact mK_new M 3
      refine lv_dup hx hb dX1_init_29 rfl ?_
      refine co_callv (va_runIN (As := []) (rest := [.ref (mZ M), .int x1, .ref (mP M 200 a0 0)]) S (m2_init l g AD M11 (mZ M) _ hk14 hw) ⟨va_cnB 0 hts (lw_meth q95) rfl rfl rfl (hK.2.2.2.1 _ q93 rfl) (hts _ q56) (by decide +kernel) ⟨Nat.le_of_ble_eq_true rfl, Nat.le_of_ble_eq_true rfl⟩, rfl, hts _ q94⟩ ⟨co_blind, co_pre hK hH hA hS⟩ rfl rfl hl.1 rfl (lv_room (Nat.le_of_ble_eq_true rfl)) dX1_init_30 ⟨(by have q2 : ckN 2 = 2 := rfl; have q4 : ckN 4 = 3 := rfl; have q8 : ckN 8 = 7 := rfl; show _ ≤ 83; omega), (by have q2 : ckN 2 = 2 := rfl; have q4 : ckN 4 = 3 := rfl; have q8 : ckN 8 = 7 := rfl; show _ ≤ 45222; omega)⟩) hS (fun M15 H locs hw hH hE17 hS => ?_)
      have hk19 := hE17.k hk12 (by decide)
      have hk20 := hE17.k hk14 (by decide)
      have hk21 := hE17.k hk13 (by decide)
      have hE := hE.tr hE17
      have hin22 := hw.1
      have hw := hw.2
      refine co_aast S hK hH hS 6 26 ⟨by decide, rfl, rfl⟩ hk21 (Or.inr ⟨2, by decide, hk20, rfl⟩) hin22 dX1_init_33 (fun H locs hH hS => ?_)
      obtain ⟨M23, eM23⟩ : ∃ y : Mm, y = sP M15 26 (mP M 200 a0 0) x1.toNatClampNeg (mZ M) := ⟨_, rfl⟩
      have hw := hw M23 eM23
      rw [← eM23] at hH
      have hE24 : Ext M15 M23 := by rw [eM23]; exact Ext.sP
      have hk25 := hE24.k hk19 (by decide)
      have hE := hE.tr hE24
      refine lv_iinc (v := x1 + 1) (lv' := [(1, .int (x1 + 1)), (0, .ref a0)]) hx hb dX1_init_34 hl (k := 1) rfl rfl (by decide) rfl (fun ls hl => ?_)
      refine lv_goto (tgt := 15) hx hb dX1_init_37 (by decide) ?_
      exact hkb _ _ (by have q2 : ckN 2 = 2 := rfl; have q4 : ckN 4 = 3 := rfl; have q8 : ckN 8 = 7 := rfl; omega) (by have q2 : ckN 2 = 2 := rfl; have q4 : ckN 4 = 3 := rfl; have q8 : ckN 8 = 7 := rfl; omega) _ _ _ hw hE hk25 _ _ hH hS _ (lv_sub hl [1, 0] rfl)
def w1_init (post : Mm → Prop) (M : Mm) (a0 : Nat) : Prop :=
  ∀ M2 : Mm, M2 = sN M 26 → (∀ M5 : Mm, M5 = sP M2 200 a0 0 (mZ M) → (w1_init_15 post  41 M5 a0 0))
set_option maxHeartbeats 4000000 in
set_option maxRecDepth 100000 in
theorem m1_init (l : Launch) (g : CG) (AD : Nat → Prop) (M : Mm) (a0 : Nat) (post : Mm → Prop) (hk_a0 : mK M a0 = 2) (hw : w1_init post M a0) : Met l yX1_init (ws_ yX1_init cX1_init 2 none) rm1_init (CPc g AD M [.ref a0]) (CQv g AD M post) 83 45222 AD := by
  refine Met.ofW (cc := cX1_init) (maxL := 2) (ret := none) (by decide) rfl ?_
  intro p e s m args below meth c s₁ B hml hv
  obtain ⟨rfl, hK, hH, hA⟩ := hv
  have hx := B.exec
  have hb := B.bytes
  have hr : meth.sig.returnType = none := B.returns
  have hts := atoms_spec (ws := ws_ yX1_init cX1_init 2 none) B.pre
  have hts : ∀ w ∈ lw_all, w.before _ s = true := fun w h => hts w (List.mem_cons_of_mem _ h)
  have hown : s.vm.findClass RX1 = some m.cls := findClass_of_methodNamed B.named
  have hlocks : meth.locks = false := B.notSynchronized
  have hin : meth.name = "<init>" := (name_of_methodNamed B.named B.method).1
  have S : CallFix p m c cX1_init 2 s _ lw_all RX1 := ⟨hx, hb, hml, hown, hts⟩
  have hS : va_S AD s.heap s.heap [] := va_S.rf
  have hE : Ext M M := Ext.rf
  have hl := lv_entry ([.ref a0]) (n := 2) (Nat.le_of_ble_eq_true rfl)
  rw [lg_entry_eq]
  generalize (lg_sl ([.ref a0]) ++ List.replicate (2 - (lg_sl ([.ref a0])).length) Slot.unset).toArray = ls at hl ⊢
  have hl : lv_has ls 2 [(0, .ref a0)] := hl
  unfold w1_init at hw
  refine lv_aload_n hx hb dX1_init_0 rfl (lv_at hl 0 rfl) ?_
  refine W.objInit hx hb hown (hts _ q89) (hts _ q81) (hts _ q82) rfl (by rw [S.2.2.1]; exact hl.1) rfl dX1_init_1 (Nat.le_of_ble_eq_true rfl) (Nat.le_of_ble_eq_true rfl) ?_
  refine W.eq (g2 := F0 m 4 ls []) rfl ?_
  refine lv_aload_n hx hb dX1_init_4 rfl (lv_at hl 0 rfl) ?_
  refine lv_bipush (v := 40) hx hb dX1_init_5 (by decide) ?_
  have hE1 := Ext.new hH 26
  refine co_newq S hK hH hS hA 6 26 ⟨by decide, rfl, rfl⟩ q90 hK.2.2.2.2.2.1 (n := 40) ⟨by decide, by decide⟩ (by decide) (Nat.le_of_ble_eq_true rfl) (Nat.le_of_ble_eq_true rfl) dX1_init_7 (fun H hH hS => ?_)
  obtain ⟨M2, eM2⟩ : ∃ y : Mm, y = sN M 26 := ⟨_, rfl⟩
  have hw := hw M2 eM2
  rw [← eM2] at hH hE1
  have hk3 := hE1.k hk_a0 (by decide)
  have hE := hE.tr hE1
  have hk4 : mK M2 (mZ M) = 26 := by rw [eM2]; exact mK_new M 26
  refine co_putF S hin hK hH hS 1 0 200 (by decide) ⟨by decide, rfl, rfl, rfl, rfl⟩ rfl q108 hk3 (by rw [hk4]; decide) ⟨rfl, rfl⟩ dX1_init_10 (fun H locs hH hS => ?_)
  obtain ⟨M5, eM5⟩ : ∃ y : Mm, y = sP M2 200 a0 0 (mZ M) := ⟨_, rfl⟩
  have hw := hw M5 eM5
  rw [← eM5] at hH
  have hE6 : Ext M2 M5 := by rw [eM5]; exact Ext.sP
  have hk7 := hE6.k hk3 (by decide)
  have hE := hE.tr hE6
  refine lv_iconst (v := 0) hx hb dX1_init_13 (by decide) ?_
  refine lv_istore_n (lv' := [(1, .int 0), (0, .ref a0)]) hx hb dX1_init_14 rfl hl (by decide) rfl (fun ls hl => ?_)
  refine r1_init_15 S hr hlocks hK hA hin  41 _ _ (by decide) (by decide) _ _ _ hw hE hk7 _ _ hH hS _ (lv_sub hl [1, 0] rfl)
/-! FarTypewriter$Letter.at(I)I -/
abbrev rm2_at : Room := { frames := 0, cells := 0, slots := 0, locals := 0 }
def w2_at (post : Int32 → Mm → Prop) (M : Mm) (a0 : Nat) (x1 : Int32) : Prop :=
  mK M (mP M 300 a0 0) = 22 ∧ (vp_in x1 1100 ∧ (post ((mI M 22 (mP M 300 a0 0) x1.toNatClampNeg) &&& 255) M))
set_option maxHeartbeats 4000000 in
set_option maxRecDepth 100000 in
theorem m2_at (l : Launch) (g : CG) (AD : Nat → Prop) (M : Mm) (a0 : Nat) (x1 : Int32) (post : Int32 → Mm → Prop) (hk_a0 : mK M a0 = 3) (hw : w2_at post M a0 x1) : Met l yX2_at (ws_ yX2_at cX2_at 2 (some .int)) rm2_at (CPc g AD M [.ref a0, .int x1]) (CQi g AD M post) 0 0 AD := by
  refine Met.ofW (cc := cX2_at) (maxL := 2) (ret := (some .int)) (by decide) rfl ?_
  intro p e s m args below meth c s₁ B hml hv
  obtain ⟨rfl, hK, hH, hA⟩ := hv
  have hx := B.exec
  have hb := B.bytes
  have hr : meth.sig.returnType = (some .int) := B.returns
  have hts := atoms_spec (ws := ws_ yX2_at cX2_at 2 (some .int)) B.pre
  have hts : ∀ w ∈ lw_all, w.before _ s = true := fun w h => hts w (List.mem_cons_of_mem _ h)
  have hown : s.vm.findClass RX2 = some m.cls := findClass_of_methodNamed B.named
  have hlocks : meth.locks = false := B.notSynchronized
  have S : CallFix p m c cX2_at 2 s _ lw_all RX2 := ⟨hx, hb, hml, hown, hts⟩
  have hS : va_S AD s.heap s.heap [] := va_S.rf
  have hE : Ext M M := Ext.rf
  have hl := lv_entry ([.ref a0, .int x1]) (n := 2) (Nat.le_of_ble_eq_true rfl)
  rw [lg_entry_eq]
  generalize (lg_sl ([.ref a0, .int x1]) ++ List.replicate (2 - (lg_sl ([.ref a0, .int x1])).length) Slot.unset).toArray = ls at hl ⊢
  have hl : lv_has ls 2 [(0, .ref a0), (1, .int x1)] := hl
  unfold w2_at at hw
  refine lv_aload_n hx hb dX2_at_0 rfl (lv_at hl 0 rfl) ?_
  have hk1 := hw.1
  have hw := hw.2
  refine co_getr S hK hH 2 0 300 (by decide) ⟨by decide, rfl, rfl, rfl⟩ (Or.inl q97) hk_a0 (by rw [hk1]; decide) dX2_at_1 ?_
  refine lv_iload_n hx hb dX2_at_4 rfl (lv_at hl 1 rfl) ?_
  have hin2 := hw.1
  have hw := hw.2
  refine co_bald S hK hH 2 22 ⟨by decide, rfl, rfl⟩ hk1 hin2 dX2_at_5 ?_
  refine lv_sipush (v := 255) hx hb dX2_at_6 (by decide) ?_
  refine lv_iand hx hb dX2_at_9 ?_
  exact co_iret S hr hlocks hH hE hS hw dX2_at_10
