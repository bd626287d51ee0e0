/-! FarTypewriter.takes(IZ)V -/
abbrev rm0_takes : Room := { frames := 8, cells := 0, slots := 0, locals := 337 }
def w0_takes_113 (post : Mm → Prop)  (M : Mm) (t0 : Int32) (t1 : Int32) (t2 : Int32) (b3 : Nat) : Prop :=
  vp_in t2 10 ∧ (∀ M27 : Mm, M27 = sI M 24 b3 t2.toNatClampNeg (t1 + t0) → (post M27))
set_option maxHeartbeats 4000000 in
set_option maxRecDepth 100000 in
theorem r0_takes_113 {p : Program} {l : Launch} {e : Env} {s : State} {m : MethodId} {args : Array Value} {below : List Frame} {meth : Method} {c : Code} {g : CG} {AD : Nat → Prop} {M0 : Mm} (S : CallFix p m c cX0_takes 5 s args lw_all RX0) (hr : meth.sig.returnType = none) (hlocks : meth.locks = false) (hK : KC g s) (hA : ∀ q, s.heap.size ≤ q → AD q) {post : Mm → Prop}  : ∀ (M : Mm) (t0 : Int32) (t1 : Int32) (t2 : Int32) (b3 : Nat), w0_takes_113 post  M t0 t1 t2 b3 → Ext M0 M → mK M b3 = 24 → ∀ (H : Heap) (locs : List Loc), HC g AD M H → va_S AD s.heap H locs → ∀ (ls : Array Slot), lv_has ls 5 [] → W p l e rm0_takes s m args below meth c H locs 0 0 (MQ below (CQv g AD M0 post) args s 0 0 AD) (F0 m 113 ls [.int t0, .int t1, .int t2, .ref b3]) := by
  have hx := S.1
  have hb := S.2.1
  have hown := S.2.2.2.1
  have hts := S.2.2.2.2
  intro M t0 t1 t2 b3 hw hE hk_b3 H locs hH hS ls hl
  unfold w0_takes_113 at hw
  refine lv_iadd hx hb dX0_takes_113 ?_
  have hin26 := hw.1
  have hw := hw.2
  refine co_iast S hK hH hS 4 24 ⟨by decide, rfl, rfl⟩ hk_b3 hin26 dX0_takes_114 (fun H locs hH hS => ?_)
  obtain ⟨M27, eM27⟩ : ∃ y : Mm, y = sI M 24 b3 t2.toNatClampNeg (t1 + t0) := ⟨_, rfl⟩
  have hw := hw M27 eM27
  rw [← eM27] at hH
  have hE28 : Ext M M27 := by rw [eM27]; exact Ext.sI
  have hE := hE.tr hE28
  exact co_vret S hr hlocks hH hE hS hw dX0_takes_115
def w0_takes_78 (post : Mm → Prop)  (M : Mm) (a0 : Nat) (x2 : Int32) (t0 : Int32) : Prop :=
  (t0 = 0 → post M) ∧ (¬ t0 = 0 → mK M (mP M 103 a0 0) = 24 ∧ (vp_in 5 10 ∧ (vp_in 5 10 ∧ (∀ M20 : Mm, M20 = sI M 24 (mP M 103 a0 0) (5 : Int32).toNatClampNeg ((mI M 24 (mP M 103 a0 0) (5 : Int32).toNatClampNeg) + 1) → (mK M20 (mP M20 103 a0 0) = 24 ∧ (vp_in 6 10 ∧ ((x2 = 0 → w0_takes_113 post M20 0 (mI M20 24 (mP M20 103 a0 0) (6 : Int32).toNatClampNeg) 6 (mP M20 103 a0 0)) ∧ (¬ x2 = 0 → w0_takes_113 post M20 1 (mI M20 24 (mP M20 103 a0 0) (6 : Int32).toNatClampNeg) 6 (mP M20 103 a0 0)))))))))
set_option maxHeartbeats 4000000 in
set_option maxRecDepth 100000 in
theorem r0_takes_78 {p : Program} {l : Launch} {e : Env} {s : State} {m : MethodId} {args : Array Value} {below : List Frame} {meth : Method} {c : Code} {g : CG} {AD : Nat → Prop} {M0 : Mm} (S : CallFix p m c cX0_takes 5 s args lw_all RX0) (hr : meth.sig.returnType = none) (hlocks : meth.locks = false) (hK : KC g s) (hA : ∀ q, s.heap.size ≤ q → AD q) {post : Mm → Prop}  : ∀ (M : Mm) (a0 : Nat) (x2 : Int32) (t0 : Int32), w0_takes_78 post  M a0 x2 t0 → Ext M0 M → mK M a0 = 1 → ∀ (H : Heap) (locs : List Loc), HC g AD M H → va_S AD s.heap H locs → ∀ (ls : Array Slot), lv_has ls 5 [(0, .ref a0), (2, .int x2)] → W p l e rm0_takes s m args below meth c H locs 0 0 (MQ below (CQv g AD M0 post) args s 0 0 AD) (F0 m 78 ls [.int t0]) := by
  have hx := S.1
  have hb := S.2.1
  have hown := S.2.2.2.1
  have hts := S.2.2.2.2
  intro M a0 x2 t0 hw hE hk_a0 H locs hH hS ls hl
  unfold w0_takes_78 at hw
  refine lv_istore (lv' := [(4, .int t0), (0, .ref a0), (2, .int x2)]) hx hb dX0_takes_78 hl (by decide) rfl (fun ls hl => ?_)
  refine lv_iload hx hb dX0_takes_80 (lv_at hl 0 rfl) ?_
  refine lv_if_ne (tgt := 86) hx hb dX0_takes_82 (by decide) (fun c16 => ?_) (fun c16 => ?_)
  · have hw := hw.2 c16
    refine lv_aload_n hx hb dX0_takes_86 rfl (lv_at hl 1 rfl) ?_
    have hk17 := hw.1
    have hw := hw.2
    refine co_getr S hK hH 0 3 103 (by decide) ⟨by decide, rfl, rfl, rfl⟩ (Or.inl q264) hk_a0 (by rw [hk17]; decide) dX0_takes_87 ?_
    refine lv_iconst (v := 5) hx hb dX0_takes_90 (by decide) ?_
    refine lv_dup2_11 hx hb dX0_takes_91 rfl rfl ?_
    have hin18 := hw.1
    have hw := hw.2
    refine co_iald S hK hH 4 24 ⟨by decide, rfl, rfl⟩ hk17 hin18 dX0_takes_92 ?_
    refine lv_iconst (v := 1) hx hb dX0_takes_93 (by decide) ?_
    refine lv_iadd hx hb dX0_takes_94 ?_
    have hin19 := hw.1
    have hw := hw.2
    refine co_iast S hK hH hS 4 24 ⟨by decide, rfl, rfl⟩ hk17 hin19 dX0_takes_95 (fun H locs hH hS => ?_)
    obtain ⟨M20, eM20⟩ : ∃ y : Mm, y = sI M 24 (mP M 103 a0 0) (5 : Int32).toNatClampNeg ((mI M 24 (mP M 103 a0 0) (5 : Int32).toNatClampNeg) + 1) := ⟨_, rfl⟩
    have hw := hw M20 eM20
    rw [← eM20] at hH
    have hE21 : Ext M M20 := by rw [eM20]; exact Ext.sI
    have hk22 := hE21.k hk_a0 (by decide)
    have hE := hE.tr hE21
    refine lv_aload_n hx hb dX0_takes_96 rfl (lv_at hl 1 rfl) ?_
    have hk23 := hw.1
    have hw := hw.2
    refine co_getr S hK hH 0 3 103 (by decide) ⟨by decide, rfl, rfl, rfl⟩ (Or.inl q264) hk22 (by rw [hk23]; decide) dX0_takes_97 ?_
    refine lv_bipush (v := 6) hx hb dX0_takes_100 (by decide) ?_
    refine lv_dup2_11 hx hb dX0_takes_102 rfl rfl ?_
    have hin24 := hw.1
    have hw := hw.2
    refine co_iald S hK hH 4 24 ⟨by decide, rfl, rfl⟩ hk23 hin24 dX0_takes_103 ?_
    refine lv_iload_n hx hb dX0_takes_104 rfl (lv_at hl 2 rfl) ?_
    refine lv_if_eq (tgt := 112) hx hb dX0_takes_105 (by decide) (fun c25 => ?_) (fun c25 => ?_)
    · have hw := hw.1 c25
      refine lv_iconst (v := 0) hx hb dX0_takes_112 (by decide) ?_
      exact r0_takes_113 S hr hlocks hK hA  _ _ _ _ _ hw hE hk23 _ _ hH hS _ (lv_sub hl [] rfl)
    · have hw := hw.2 c25
      refine lv_iconst (v := 1) hx hb dX0_takes_108 (by decide) ?_
      refine lv_goto (tgt := 113) hx hb dX0_takes_109 (by decide) ?_
      exact r0_takes_113 S hr hlocks hK hA  _ _ _ _ _ hw hE hk23 _ _ hH hS _ (lv_sub hl [] rfl)
  · have hw := hw.1 c16
    exact co_vret S hr hlocks hH hE hS hw dX0_takes_85
def w0_takes_47 (post : Mm → Prop)  (M : Mm) (a0 : Nat) (x1 : Int32) (x2 : Int32) (t0 : Int32) : Prop :=
  (t0 = 0 → mK M (mP M 103 a0 0) = 24 ∧ (vp_in 3 10 ∧ (vp_in 3 10 ∧ (∀ M37 : Mm, M37 = sI M 24 (mP M 103 a0 0) (3 : Int32).toNatClampNeg ((mI M 24 (mP M 103 a0 0) (3 : Int32).toNatClampNeg) + 1) → (post M37))))) ∧ (¬ t0 = 0 → (x1 = 0 → w0_takesFar (fun (r30 : Int32) (M29 : Mm) => w0_takes_78 post M29 a0 x2 r30) M a0) ∧ (¬ x1 = 0 → w0_takesNear (fun (r12 : Int32) (M11 : Mm) => w0_takes_78 post M11 a0 x2 r12) M a0))
set_option maxHeartbeats 4000000 in
set_option maxRecDepth 100000 in
theorem r0_takes_47 {p : Program} {l : Launch} {e : Env} {s : State} {m : MethodId} {args : Array Value} {below : List Frame} {meth : Method} {c : Code} {g : CG} {AD : Nat → Prop} {M0 : Mm} (S : CallFix p m c cX0_takes 5 s args lw_all RX0) (hr : meth.sig.returnType = none) (hlocks : meth.locks = false) (hK : KC g s) (hA : ∀ q, s.heap.size ≤ q → AD q) {post : Mm → Prop}  : ∀ (M : Mm) (a0 : Nat) (x1 : Int32) (x2 : Int32) (t0 : Int32), w0_takes_47 post  M a0 x1 x2 t0 → Ext M0 M → mK M a0 = 1 → ∀ (H : Heap) (locs : List Loc), HC g AD M H → va_S AD s.heap H locs → ∀ (ls : Array Slot), lv_has ls 5 [(0, .ref a0), (1, .int x1), (2, .int x2)] → W p l e rm0_takes s m args below meth c H locs 0 0 (MQ below (CQv g AD M0 post) args s 0 0 AD) (F0 m 47 ls [.int t0]) := by
  have hx := S.1
  have hb := S.2.1
  have hown := S.2.2.2.1
  have hts := S.2.2.2.2
  intro M a0 x1 x2 t0 hw hE hk_a0 H locs hH hS ls hl
  unfold w0_takes_47 at hw
  refine lv_istore_n (lv' := [(3, .int t0), (0, .ref a0), (1, .int x1), (2, .int x2)]) hx hb dX0_takes_47 rfl hl (by decide) rfl (fun ls hl => ?_)
  refine lv_iload_n hx hb dX0_takes_48 rfl (lv_at hl 0 rfl) ?_
  refine lv_if_ne (tgt := 63) hx hb dX0_takes_49 (by decide) (fun c9 => ?_) (fun c9 => ?_)
  · have hw := hw.2 c9
    refine lv_iload_n hx hb dX0_takes_63 rfl (lv_at hl 2 rfl) ?_
    refine lv_if_ne (tgt := 74) hx hb dX0_takes_64 (by decide) (fun c10 => ?_) (fun c10 => ?_)
    · have hw := hw.2 c10
      refine lv_aload_n hx hb dX0_takes_74 rfl (lv_at hl 1 rfl) ?_
      refine co_calli (va_runV (As := []) (rest := []) S (m0_takesNear l g AD M a0 _ hk_a0 hw) (cwV 0 hts (lw_V q689 q691 qs12 q54 q692) rfl rfl rfl (by decide +kernel) ⟨Nat.le_of_ble_eq_true rfl, Nat.le_of_ble_eq_true rfl⟩) ⟨co_blind, co_recv hK hH (c := 0) (by decide) hk_a0, co_pre hK hH hA hS⟩ rfl rfl hl.1 rfl (lv_room (Nat.le_of_ble_eq_true rfl)) dX0_takes_75 ⟨Nat.le_refl _, Nat.le_refl _⟩) hS (fun r12 M11 H locs hw hH hE13 hS => ?_)
      have hk15 := hE13.k hk_a0 (by decide)
      have hE := hE.tr hE13
      exact r0_takes_78 S hr hlocks hK hA  _ _ _ _ hw hE hk15 _ _ hH hS _ (lv_sub hl [1, 3] rfl)
    · have hw := hw.1 c10
      refine lv_aload_n hx hb dX0_takes_67 rfl (lv_at hl 1 rfl) ?_
      refine co_calli (va_runV (As := []) (rest := []) S (m0_takesFar l g AD M a0 _ hk_a0 hw) (cwV 0 hts (lw_V q639 q641 qs10 q54 q642) rfl rfl rfl (by decide +kernel) ⟨Nat.le_of_ble_eq_true rfl, Nat.le_of_ble_eq_true rfl⟩) ⟨co_blind, co_recv hK hH (c := 0) (by decide) hk_a0, co_pre hK hH hA hS⟩ rfl rfl hl.1 rfl (lv_room (Nat.le_of_ble_eq_true rfl)) dX0_takes_68 ⟨Nat.le_refl _, Nat.le_refl _⟩) hS (fun r30 M29 H locs hw hH hE31 hS => ?_)
      have hk33 := hE31.k hk_a0 (by decide)
      have hE := hE.tr hE31
      refine lv_goto (tgt := 78) hx hb dX0_takes_71 (by decide) ?_
      exact r0_takes_78 S hr hlocks hK hA  _ _ _ _ hw hE hk33 _ _ hH hS _ (lv_sub hl [1, 3] rfl)
  · have hw := hw.1 c9
    refine lv_aload_n hx hb dX0_takes_52 rfl (lv_at hl 1 rfl) ?_
    have hk34 := hw.1
    have hw := hw.2
    refine co_getr S hK hH 0 3 103 (by decide) ⟨by decide, rfl, rfl, rfl⟩ (Or.inl q264) hk_a0 (by rw [hk34]; decide) dX0_takes_53 ?_
    refine lv_iconst (v := 3) hx hb dX0_takes_56 (by decide) ?_
    refine lv_dup2_11 hx hb dX0_takes_57 rfl rfl ?_
    have hin35 := hw.1
    have hw := hw.2
    refine co_iald S hK hH 4 24 ⟨by decide, rfl, rfl⟩ hk34 hin35 dX0_takes_58 ?_
    refine lv_iconst (v := 1) hx hb dX0_takes_59 (by decide) ?_
    refine lv_iadd hx hb dX0_takes_60 ?_
    have hin36 := hw.1
    have hw := hw.2
    refine co_iast S hK hH hS 4 24 ⟨by decide, rfl, rfl⟩ hk34 hin36 dX0_takes_61 (fun H locs hH hS => ?_)
    obtain ⟨M37, eM37⟩ : ∃ y : Mm, y = sI M 24 (mP M 103 a0 0) (3 : Int32).toNatClampNeg ((mI M 24 (mP M 103 a0 0) (3 : Int32).toNatClampNeg) + 1) := ⟨_, rfl⟩
    have hw := hw M37 eM37
    rw [← eM37] at hH
    have hE38 : Ext M M37 := by rw [eM37]; exact Ext.sI
    have hk39 := hE38.k hk_a0 (by decide)
    have hE := hE.tr hE38
    exact co_vret S hr hlocks hH hE hS hw dX0_takes_62
def w0_takes_46 (post : Mm → Prop)  (M : Mm) (a0 : Nat) (x1 : Int32) (x2 : Int32) : Prop :=
  w0_takes_47 post M a0 x1 x2 0
set_option maxHeartbeats 4000000 in
set_option maxRecDepth 100000 in
theorem r0_takes_46 {p : Program} {l : Launch} {e : Env} {s : State} {m : MethodId} {args : Array Value} {below : List Frame} {meth : Method} {c : Code} {g : CG} {AD : Nat → Prop} {M0 : Mm} (S : CallFix p m c cX0_takes 5 s args lw_all RX0) (hr : meth.sig.returnType = none) (hlocks : meth.locks = false) (hK : KC g s) (hA : ∀ q, s.heap.size ≤ q → AD q) {post : Mm → Prop}  : ∀ (M : Mm) (a0 : Nat) (x1 : Int32) (x2 : Int32), w0_takes_46 post  M a0 x1 x2 → Ext M0 M → mK M a0 = 1 → ∀ (H : Heap) (locs : List Loc), HC g AD M H → va_S AD s.heap H locs → ∀ (ls : Array Slot), lv_has ls 5 [(0, .ref a0), (1, .int x1), (2, .int x2)] → W p l e rm0_takes s m args below meth c H locs 0 0 (MQ below (CQv g AD M0 post) args s 0 0 AD) (F0 m 46 ls []) := by
  have hx := S.1
  have hb := S.2.1
  have hown := S.2.2.2.1
  have hts := S.2.2.2.2
  intro M a0 x1 x2 hw hE hk_a0 H locs hH hS ls hl
  unfold w0_takes_46 at hw
  refine lv_iconst (v := 0) hx hb dX0_takes_46 (by decide) ?_
  exact r0_takes_47 S hr hlocks hK hA  _ _ _ _ _ hw hE hk_a0 _ _ hH hS _ (lv_sub hl [0, 1, 2] rfl)
def w0_takes_39 (post : Mm → Prop)  (M : Mm) (a0 : Nat) (x1 : Int32) (x2 : Int32) (t0 : Int32) (t1 : Int32) : Prop :=
  (t1 < t0 → w0_takes_46 post M a0 x1 x2) ∧ (¬ t1 < t0 → w0_takes_47 post M a0 x1 x2 1)
set_option maxHeartbeats 4000000 in
set_option maxRecDepth 100000 in
theorem r0_takes_39 {p : Program} {l : Launch} {e : Env} {s : State} {m : MethodId} {args : Array Value} {below : List Frame} {meth : Method} {c : Code} {g : CG} {AD : Nat → Prop} {M0 : Mm} (S : CallFix p m c cX0_takes 5 s args lw_all RX0) (hr : meth.sig.returnType = none) (hlocks : meth.locks = false) (hK : KC g s) (hA : ∀ q, s.heap.size ≤ q → AD q) {post : Mm → Prop}  : ∀ (M : Mm) (a0 : Nat) (x1 : Int32) (x2 : Int32) (t0 : Int32) (t1 : Int32), w0_takes_39 post  M a0 x1 x2 t0 t1 → Ext M0 M → mK M a0 = 1 → ∀ (H : Heap) (locs : List Loc), HC g AD M H → va_S AD s.heap H locs → ∀ (ls : Array Slot), lv_has ls 5 [(0, .ref a0), (1, .int x1), (2, .int x2)] → W p l e rm0_takes s m args below meth c H locs 0 0 (MQ below (CQv g AD M0 post) args s 0 0 AD) (F0 m 39 ls [.int t0, .int t1]) := by
  have hx := S.1
  have hb := S.2.1
  have hown := S.2.2.2.1
  have hts := S.2.2.2.2
  intro M a0 x1 x2 t0 t1 hw hE hk_a0 H locs hH hS ls hl
  unfold w0_takes_39 at hw
  refine lv_icmp_lt (tgt := 46) hx hb dX0_takes_39 (by decide) (fun c42 => ?_) (fun c42 => ?_)
  · have hw := hw.1 c42
    exact r0_takes_46 S hr hlocks hK hA  _ _ _ _ hw hE hk_a0 _ _ hH hS _ (lv_sub hl [0, 1, 2] rfl)
  · have hw := hw.2 c42
    refine lv_iconst (v := 1) hx hb dX0_takes_42 (by decide) ?_
    refine lv_goto (tgt := 47) hx hb dX0_takes_43 (by decide) ?_
    exact r0_takes_47 S hr hlocks hK hA  _ _ _ _ _ hw hE hk_a0 _ _ hH hS _ (lv_sub hl [0, 1, 2] rfl)
def w0_takes_15 (post : Mm → Prop)  (M : Mm) (a0 : Nat) (x1 : Int32) (x2 : Int32) (t0 : Int32) (b1 : Nat) : Prop :=
  w2_isWhole (fun (r4 : Int32) (M3 : Mm) => (r4 = 0 → w0_takes_46 post M3 a0 x1 x2) ∧ (¬ r4 = 0 → mK M3 (mP M3 105 a0 0) = 3 ∧ ((x1 = 0 → w0_takes_39 post M3 a0 x1 x2 10 (mI M3 301 (mP M3 105 a0 0) 0)) ∧ (¬ x1 = 0 → w0_takes_39 post M3 a0 x1 x2 13 (mI M3 301 (mP M3 105 a0 0) 0))))) M b1 t0
set_option maxHeartbeats 4000000 in
set_option maxRecDepth 100000 in
theorem r0_takes_15 {p : Program} {l : Launch} {e : Env} {s : State} {m : MethodId} {args : Array Value} {below : List Frame} {meth : Method} {c : Code} {g : CG} {AD : Nat → Prop} {M0 : Mm} (S : CallFix p m c cX0_takes 5 s args lw_all RX0) (hr : meth.sig.returnType = none) (hlocks : meth.locks = false) (hK : KC g s) (hA : ∀ q, s.heap.size ≤ q → AD q) {post : Mm → Prop}  : ∀ (M : Mm) (a0 : Nat) (x1 : Int32) (x2 : Int32) (t0 : Int32) (b1 : Nat), w0_takes_15 post  M a0 x1 x2 t0 b1 → Ext M0 M → mK M a0 = 1 → mK M b1 = 3 → ∀ (H : Heap) (locs : List Loc), HC g AD M H → va_S AD s.heap H locs → ∀ (ls : Array Slot), lv_has ls 5 [(0, .ref a0), (1, .int x1), (2, .int x2)] → W p l e rm0_takes s m args below meth c H locs 0 0 (MQ below (CQv g AD M0 post) args s 0 0 AD) (F0 m 15 ls [.int t0, .ref b1]) := by
  have hx := S.1
  have hb := S.2.1
  have hown := S.2.2.2.1
  have hts := S.2.2.2.2
  intro M a0 x1 x2 t0 b1 hw hE hk_a0 hk_b1 H locs hH hS ls hl
  unfold w0_takes_15 at hw
  refine co_calli (va_runV (As := [.int t0]) (rest := []) S (m2_isWhole l g AD M b1 t0 _ hk_b1 hw) (cwV 1 hts (lw_V q630 q631 q632 q56 q633) rfl rfl rfl (by decide +kernel) ⟨Nat.le_of_ble_eq_true rfl, Nat.le_of_ble_eq_true rfl⟩) ⟨co_blind, co_recv hK hH (c := 2) (by decide) hk_b1, co_pre hK hH hA hS⟩ rfl rfl hl.1 rfl (lv_room (Nat.le_of_ble_eq_true rfl)) dX0_takes_15 ⟨Nat.le_refl _, Nat.le_refl _⟩) hS (fun r4 M3 H locs hw hH hE5 hS => ?_)
  have hk7 := hE5.k hk_a0 (by decide)
  have hE := hE.tr hE5
  refine lv_if_eq (tgt := 46) hx hb dX0_takes_18 (by decide) (fun c8 => ?_) (fun c8 => ?_)
  · have hw := hw.1 c8
    exact r0_takes_46 S hr hlocks hK hA  _ _ _ _ hw hE hk7 _ _ hH hS _ (lv_sub hl [0, 1, 2] rfl)
  · have hw := hw.2 c8
    refine lv_aload_n hx hb dX0_takes_21 rfl (lv_at hl 0 rfl) ?_
    have hk40 := hw.1
    have hw := hw.2
    refine co_getr S hK hH 0 5 105 (by decide) ⟨by decide, rfl, rfl, rfl⟩ (Or.inl q266) hk7 (by rw [hk40]; decide) dX0_takes_22 ?_
    refine co_geti S hK hH 2 1 301 (by decide) ⟨by decide, rfl, rfl, rfl⟩ (Or.inr ⟨_, q100⟩) hk40 dX0_takes_25 ?_
    refine lv_iload_n hx hb dX0_takes_28 rfl (lv_at hl 1 rfl) ?_
    refine lv_if_ne (tgt := 37) hx hb dX0_takes_29 (by decide) (fun c41 => ?_) (fun c41 => ?_)
    · have hw := hw.2 c41
      refine lv_bipush (v := 13) hx hb dX0_takes_37 (by decide) ?_
      exact r0_takes_39 S hr hlocks hK hA  _ _ _ _ _ _ hw hE hk7 _ _ hH hS _ (lv_sub hl [0, 1, 2] rfl)
    · have hw := hw.1 c41
      refine lv_bipush (v := 10) hx hb dX0_takes_32 (by decide) ?_
      refine lv_goto (tgt := 39) hx hb dX0_takes_34 (by decide) ?_
      exact r0_takes_39 S hr hlocks hK hA  _ _ _ _ _ _ hw hE hk7 _ _ hH hS _ (lv_sub hl [0, 1, 2] rfl)
def w0_takes (post : Mm → Prop) (M : Mm) (a0 : Nat) (x1 : Int32) (x2 : Int32) : Prop :=
  mK M (mP M 105 a0 0) = 3 ∧ ((x1 = 0 → w0_takes_15 post M a0 x1 x2 75 (mP M 105 a0 0)) ∧ (¬ x1 = 0 → w0_takes_15 post M a0 x1 x2 83 (mP M 105 a0 0)))
set_option maxHeartbeats 4000000 in
set_option maxRecDepth 100000 in
theorem m0_takes (l : Launch) (g : CG) (AD : Nat → Prop) (M : Mm) (a0 : Nat) (x1 : Int32) (x2 : Int32) (post : Mm → Prop) (hk_a0 : mK M a0 = 1) (hw : w0_takes post M a0 x1 x2) : Met l yX0_takes (ws_ yX0_takes cX0_takes 5 none) rm0_takes (CPc g AD M [.ref a0, .int x1, .int x2]) (CQv g AD M post) 0 0 AD := by
  refine Met.ofW (cc := cX0_takes) (maxL := 5) (ret := none) (by decide) rfl ?_
  intro p e s m args below meth c s₁ B hml hv
  obtain ⟨rfl, hK, hH, hA⟩ := hv
  have hx := B.exec
  have hb := B.bytes
  have hr : meth.sig.returnType = none := B.returns
  have hts := atoms_spec (ws := ws_ yX0_takes cX0_takes 5 none) B.pre
  have hts : ∀ w ∈ lw_all, w.before _ s = true := fun w h => hts w (List.mem_cons_of_mem _ h)
  have hown : s.vm.findClass RX0 = some m.cls := findClass_of_methodNamed B.named
  have hlocks : meth.locks = false := B.notSynchronized
  have S : CallFix p m c cX0_takes 5 s _ lw_all RX0 := ⟨hx, hb, hml, hown, hts⟩
  have hS : va_S AD s.heap s.heap [] := va_S.rf
  have hE : Ext M M := Ext.rf
  have hl := lv_entry ([.ref a0, .int x1, .int x2]) (n := 5) (Nat.le_of_ble_eq_true rfl)
  rw [lg_entry_eq]
  generalize (lg_sl ([.ref a0, .int x1, .int x2]) ++ List.replicate (5 - (lg_sl ([.ref a0, .int x1, .int x2])).length) Slot.unset).toArray = ls at hl ⊢
  have hl : lv_has ls 5 [(0, .ref a0), (1, .int x1), (2, .int x2)] := hl
  unfold w0_takes at hw
  refine lv_aload_n hx hb dX0_takes_0 rfl (lv_at hl 0 rfl) ?_
  have hk1 := hw.1
  have hw := hw.2
  refine co_getr S hK hH 0 5 105 (by decide) ⟨by decide, rfl, rfl, rfl⟩ (Or.inl q266) hk_a0 (by rw [hk1]; decide) dX0_takes_1 ?_
  refine lv_iload_n hx hb dX0_takes_4 rfl (lv_at hl 1 rfl) ?_
  refine lv_if_ne (tgt := 13) hx hb dX0_takes_5 (by decide) (fun c2 => ?_) (fun c2 => ?_)
  · have hw := hw.2 c2
    refine lv_bipush (v := 83) hx hb dX0_takes_13 (by decide) ?_
    exact r0_takes_15 S hr hlocks hK hA  _ _ _ _ _ _ hw hE hk_a0 hk1 _ _ hH hS _ (lv_sub hl [0, 1, 2] rfl)
  · have hw := hw.1 c2
    refine lv_bipush (v := 75) hx hb dX0_takes_8 (by decide) ?_
    refine lv_goto (tgt := 15) hx hb dX0_takes_10 (by decide) ?_
    exact r0_takes_15 S hr hlocks hK hA  _ _ _ _ _ _ hw hE hk_a0 hk1 _ _ hH hS _ (lv_sub hl [0, 1, 2] rfl)
/-! FarTypewriter.carry(IIII)I -/
abbrev rm0_carry : Room := { frames := 9, cells := 0, slots := 0, locals := 361 }
def w0_carry_170 (post : Int32 → Mm → Prop)  (M : Mm) (a5 : Nat) (t0 : Int32) (t1 : Int32) (b2 : Nat) : Prop :=
  w0_takes (fun (M28 : Mm) => post (mI M28 201 a5 0) M28) M b2 t1 t0
set_option maxHeartbeats 4000000 in
set_option maxRecDepth 100000 in
theorem r0_carry_170 {p : Program} {l : Launch} {e : Env} {s : State} {m : MethodId} {args : Array Value} {below : List Frame} {meth : Method} {c : Code} {g : CG} {AD : Nat → Prop} {M0 : Mm} (S : CallFix p m c cX0_carry 6 s args lw_all RX0) (hr : meth.sig.returnType = (some .int)) (hlocks : meth.locks = false) (hK : KC g s) (hA : ∀ q, s.heap.size ≤ q → AD q) {post : Int32 → Mm → Prop}  : ∀ (M : Mm) (a5 : Nat) (t0 : Int32) (t1 : Int32) (b2 : Nat), w0_carry_170 post  M a5 t0 t1 b2 → Ext M0 M → mK M a5 = 2 → mK M b2 = 1 → ∀ (H : Heap) (locs : List Loc), HC g AD M H → va_S AD s.heap H locs → ∀ (ls : Array Slot), lv_has ls 6 [(5, .ref a5)] → W p l e rm0_carry s m args below meth c H locs 0 0 (MQ below (CQi g AD M0 post) args s 0 0 AD) (F0 m 170 ls [.int t0, .int t1, .ref b2]) := by
  have hx := S.1
  have hb := S.2.1
  have hown := S.2.2.2.1
  have hts := S.2.2.2.2
  intro M a5 t0 t1 b2 hw hE hk_a5 hk_b2 H locs hH hS ls hl
  unfold w0_carry_170 at hw
  refine co_callv (va_runV (As := [.int t1, .int t0]) (rest := []) S (m0_takes l g AD M b2 t1 t0 _ hk_b2 hw) (cwV 2 hts (lw_V q626 q628 qs9 q54 q629) rfl rfl rfl (by decide +kernel) ⟨Nat.le_of_ble_eq_true rfl, Nat.le_of_ble_eq_true rfl⟩) ⟨co_blind, co_recv hK hH (c := 0) (by decide) hk_b2, co_pre hK hH hA hS⟩ rfl rfl hl.1 rfl (lv_room (Nat.le_of_ble_eq_true rfl)) dX0_carry_170 ⟨Nat.le_refl _, Nat.le_refl _⟩) hS (fun M28 H locs hw hH hE30 hS => ?_)
  have hk32 := hE30.k hk_a5 (by decide)
  have hE := hE.tr hE30
  refine lv_aload hx hb dX0_carry_173 (lv_at hl 0 rfl) ?_
  refine co_geti S hK hH 1 1 201 (by decide) ⟨by decide, rfl, rfl, rfl⟩ (Or.inr ⟨_, q111⟩) hk32 dX0_carry_175 ?_
  exact co_iret S hr hlocks hH hE hS hw dX0_carry_178
def w0_carry_169 (post : Int32 → Mm → Prop)  (M : Mm) (a5 : Nat) (t0 : Int32) (b1 : Nat) : Prop :=
  w0_carry_170 post M a5 0 t0 b1
set_option maxHeartbeats 4000000 in
set_option maxRecDepth 100000 in
theorem r0_carry_169 {p : Program} {l : Launch} {e : Env} {s : State} {m : MethodId} {args : Array Value} {below : List Frame} {meth : Method} {c : Code} {g : CG} {AD : Nat → Prop} {M0 : Mm} (S : CallFix p m c cX0_carry 6 s args lw_all RX0) (hr : meth.sig.returnType = (some .int)) (hlocks : meth.locks = false) (hK : KC g s) (hA : ∀ q, s.heap.size ≤ q → AD q) {post : Int32 → Mm → Prop}  : ∀ (M : Mm) (a5 : Nat) (t0 : Int32) (b1 : Nat), w0_carry_169 post  M a5 t0 b1 → Ext M0 M → mK M a5 = 2 → mK M b1 = 1 → ∀ (H : Heap) (locs : List Loc), HC g AD M H → va_S AD s.heap H locs → ∀ (ls : Array Slot), lv_has ls 6 [(5, .ref a5)] → W p l e rm0_carry s m args below meth c H locs 0 0 (MQ below (CQi g AD M0 post) args s 0 0 AD) (F0 m 169 ls [.int t0, .ref b1]) := by
  have hx := S.1
  have hb := S.2.1
  have hown := S.2.2.2.1
  have hts := S.2.2.2.2
  intro M a5 t0 b1 hw hE hk_a5 hk_b1 H locs hH hS ls hl
  unfold w0_carry_169 at hw
  refine lv_iconst (v := 0) hx hb dX0_carry_169 (by decide) ?_
  exact r0_carry_170 S hr hlocks hK hA  _ _ _ _ _ hw hE hk_a5 hk_b1 _ _ hH hS _ (lv_sub hl [0] rfl)
def w0_carry_131 (post : Int32 → Mm → Prop)  (M : Mm) (a0 : Nat) (x1 : Int32) (x3 : Int32) (x4 : Int32) (a5 : Nat) : Prop :=
  (x3 = 1 → mK M (mP M 103 a0 0) = 24 ∧ (vp_in 2 10 ∧ (vp_in 2 10 ∧ (∀ M37 : Mm, M37 = sI M 24 (mP M 103 a0 0) (2 : Int32).toNatClampNeg ((mI M 24 (mP M 103 a0 0) (2 : Int32).toNatClampNeg) + 1) → (post (mI M37 201 a5 0) M37))))) ∧ (¬ x3 = 1 → (x3 = 3 → ((x4 - x4 / 256 * 256) = 0 → w0_carry_169 post M a5 x1 a0) ∧ (¬ (x4 - x4 / 256 * 256) = 0 → w0_carry_170 post M a5 1 x1 a0)) ∧ (¬ x3 = 3 → w0_carry_169 post M a5 x1 a0))
set_option maxHeartbeats 4000000 in
set_option maxRecDepth 100000 in
theorem r0_carry_131 {p : Program} {l : Launch} {e : Env} {s : State} {m : MethodId} {args : Array Value} {below : List Frame} {meth : Method} {c : Code} {g : CG} {AD : Nat → Prop} {M0 : Mm} (S : CallFix p m c cX0_carry 6 s args lw_all RX0) (hr : meth.sig.returnType = (some .int)) (hlocks : meth.locks = false) (hK : KC g s) (hA : ∀ q, s.heap.size ≤ q → AD q) {post : Int32 → Mm → Prop}  : ∀ (M : Mm) (a0 : Nat) (x1 : Int32) (x3 : Int32) (x4 : Int32) (a5 : Nat), w0_carry_131 post  M a0 x1 x3 x4 a5 → Ext M0 M → mK M a0 = 1 → mK M a5 = 2 → ∀ (H : Heap) (locs : List Loc), HC g AD M H → va_S AD s.heap H locs → ∀ (ls : Array Slot), lv_has ls 6 [(0, .ref a0), (1, .int x1), (3, .int x3), (4, .int x4), (5, .ref a5)] → W p l e rm0_carry s m args below meth c H locs 0 0 (MQ below (CQi g AD M0 post) args s 0 0 AD) (F0 m 131 ls []) := by
  have hx := S.1
  have hb := S.2.1
  have hown := S.2.2.2.1
  have hts := S.2.2.2.2
  intro M a0 x1 x3 x4 a5 hw hE hk_a0 hk_a5 H locs hH hS ls hl
  unfold w0_carry_131 at hw
  refine lv_iload_n hx hb dX0_carry_131 rfl (lv_at hl 2 rfl) ?_
  refine lv_iconst (v := 1) hx hb dX0_carry_132 (by decide) ?_
  refine lv_icmp_ne (tgt := 149) hx hb dX0_carry_133 (by decide) (fun c26 => ?_) (fun c26 => ?_)
  · have hw := hw.2 c26
    refine lv_aload_n hx hb dX0_carry_149 rfl (lv_at hl 0 rfl) ?_
    refine lv_iload_n hx hb dX0_carry_150 rfl (lv_at hl 1 rfl) ?_
    refine lv_iload_n hx hb dX0_carry_151 rfl (lv_at hl 2 rfl) ?_
    refine lv_iconst (v := 3) hx hb dX0_carry_152 (by decide) ?_
    refine lv_icmp_ne (tgt := 169) hx hb dX0_carry_153 (by decide) (fun c27 => ?_) (fun c27 => ?_)
    · have hw := hw.2 c27
      exact r0_carry_169 S hr hlocks hK hA  _ _ _ _ hw hE hk_a5 hk_a0 _ _ hH hS _ (lv_sub hl [4] rfl)
    · have hw := hw.1 c27
      refine lv_iload hx hb dX0_carry_156 (lv_at hl 3 rfl) ?_
      refine lv_sipush (v := 256) hx hb dX0_carry_158 (by decide) ?_
      refine lv_irem hx hb dX0_carry_161 (by decide) ?_
      refine lv_if_eq (tgt := 169) hx hb dX0_carry_162 (by decide) (fun c33 => ?_) (fun c33 => ?_)
      · have hw := hw.1 c33
        exact r0_carry_169 S hr hlocks hK hA  _ _ _ _ hw hE hk_a5 hk_a0 _ _ hH hS _ (lv_sub hl [4] rfl)
      · have hw := hw.2 c33
        refine lv_iconst (v := 1) hx hb dX0_carry_165 (by decide) ?_
        refine lv_goto (tgt := 170) hx hb dX0_carry_166 (by decide) ?_
        exact r0_carry_170 S hr hlocks hK hA  _ _ _ _ _ hw hE hk_a5 hk_a0 _ _ hH hS _ (lv_sub hl [4] rfl)
  · have hw := hw.1 c26
    refine lv_aload_n hx hb dX0_carry_136 rfl (lv_at hl 0 rfl) ?_
    have hk34 := hw.1
    have hw := hw.2
    refine co_getr S hK hH 0 3 103 (by decide) ⟨by decide, rfl, rfl, rfl⟩ (Or.inl q264) hk_a0 (by rw [hk34]; decide) dX0_carry_137 ?_
    refine lv_iconst (v := 2) hx hb dX0_carry_140 (by decide) ?_
    refine lv_dup2_11 hx hb dX0_carry_141 rfl rfl ?_
    have hin35 := hw.1
    have hw := hw.2
    refine co_iald S hK hH 4 24 ⟨by decide, rfl, rfl⟩ hk34 hin35 dX0_carry_142 ?_
    refine lv_iconst (v := 1) hx hb dX0_carry_143 (by decide) ?_
    refine lv_iadd hx hb dX0_carry_144 ?_
    have hin36 := hw.1
    have hw := hw.2
    refine co_iast S hK hH hS 4 24 ⟨by decide, rfl, rfl⟩ hk34 hin36 dX0_carry_145 (fun H locs hH hS => ?_)
    obtain ⟨M37, eM37⟩ : ∃ y : Mm, y = sI M 24 (mP M 103 a0 0) (2 : Int32).toNatClampNeg ((mI M 24 (mP M 103 a0 0) (2 : Int32).toNatClampNeg) + 1) := ⟨_, rfl⟩
    have hw := hw M37 eM37
    rw [← eM37] at hH
    have hE38 : Ext M M37 := by rw [eM37]; exact Ext.sI
    have hk39 := hE38.k hk_a0 (by decide)
    have hk40 := hE38.k hk_a5 (by decide)
    have hE := hE.tr hE38
    refine lv_goto (tgt := 173) hx hb dX0_carry_146 (by decide) ?_
    refine lv_aload hx hb dX0_carry_173 (lv_at hl 4 rfl) ?_
    refine co_geti S hK hH 1 1 201 (by decide) ⟨by decide, rfl, rfl, rfl⟩ (Or.inr ⟨_, q111⟩) hk40 dX0_carry_175 ?_
    exact co_iret S hr hlocks hH hE hS hw dX0_carry_178
def w0_carry_101 (post : Int32 → Mm → Prop)  (M : Mm) (a0 : Nat) (x1 : Int32) (x3 : Int32) (x4 : Int32) (a5 : Nat) : Prop :=
  (x3 = 3 → mK M (mP M 105 a0 0) = 3 ∧ (mK M (mP M 300 (mP M 105 a0 0) 0) = 22 ∧ (vp_in (x4 / 256) 1100 ∧ (vp_in (x4 / 256) 1100 ∧ (∀ M45 : Mm, M45 = sI M 22 (mP M 300 (mP M 105 a0 0) 0) (x4 / 256).toNatClampNeg (((mI M 22 (mP M 300 (mP M 105 a0 0) 0) (x4 / 256).toNatClampNeg) ^^^ ((x4 - x4 / 256 * 256).toInt8.toInt32)).toInt8.toInt32).toInt8.toInt32 → (w0_carry_131 post M45 a0 x1 x3 x4 a5)))))) ∧ (¬ x3 = 3 → w0_carry_131 post M a0 x1 x3 x4 a5)
set_option maxHeartbeats 4000000 in
set_option maxRecDepth 100000 in
theorem r0_carry_101 {p : Program} {l : Launch} {e : Env} {s : State} {m : MethodId} {args : Array Value} {below : List Frame} {meth : Method} {c : Code} {g : CG} {AD : Nat → Prop} {M0 : Mm} (S : CallFix p m c cX0_carry 6 s args lw_all RX0) (hr : meth.sig.returnType = (some .int)) (hlocks : meth.locks = false) (hK : KC g s) (hA : ∀ q, s.heap.size ≤ q → AD q) {post : Int32 → Mm → Prop}  : ∀ (M : Mm) (a0 : Nat) (x1 : Int32) (x3 : Int32) (x4 : Int32) (a5 : Nat), w0_carry_101 post  M a0 x1 x3 x4 a5 → Ext M0 M → mK M a0 = 1 → mK M a5 = 2 → ∀ (H : Heap) (locs : List Loc), HC g AD M H → va_S AD s.heap H locs → ∀ (ls : Array Slot), lv_has ls 6 [(0, .ref a0), (1, .int x1), (3, .int x3), (4, .int x4), (5, .ref a5)] → W p l e rm0_carry s m args below meth c H locs 0 0 (MQ below (CQi g AD M0 post) args s 0 0 AD) (F0 m 101 ls []) := by
  have hx := S.1
  have hb := S.2.1
  have hown := S.2.2.2.1
  have hts := S.2.2.2.2
  intro M a0 x1 x3 x4 a5 hw hE hk_a0 hk_a5 H locs hH hS ls hl
  unfold w0_carry_101 at hw
  refine lv_iload_n hx hb dX0_carry_101 rfl (lv_at hl 2 rfl) ?_
  refine lv_iconst (v := 3) hx hb dX0_carry_102 (by decide) ?_
  refine lv_icmp_ne (tgt := 131) hx hb dX0_carry_103 (by decide) (fun c25 => ?_) (fun c25 => ?_)
  · have hw := hw.2 c25
    exact r0_carry_131 S hr hlocks hK hA  _ _ _ _ _ _ hw hE hk_a0 hk_a5 _ _ hH hS _ (lv_sub hl [0, 1, 2, 3, 4] rfl)
  · have hw := hw.1 c25
    refine lv_aload_n hx hb dX0_carry_106 rfl (lv_at hl 0 rfl) ?_
    have hk41 := hw.1
    have hw := hw.2
    refine co_getr S hK hH 0 5 105 (by decide) ⟨by decide, rfl, rfl, rfl⟩ (Or.inl q266) hk_a0 (by rw [hk41]; decide) dX0_carry_107 ?_
    have hk42 := hw.1
    have hw := hw.2
    refine co_getr S hK hH 2 0 300 (by decide) ⟨by decide, rfl, rfl, rfl⟩ (Or.inr ⟨_, q98⟩) hk41 (by rw [hk42]; decide) dX0_carry_110 ?_
    refine lv_iload hx hb dX0_carry_113 (lv_at hl 3 rfl) ?_
    refine lv_sipush (v := 256) hx hb dX0_carry_115 (by decide) ?_
    refine lv_idiv hx hb dX0_carry_118 (by decide) ?_
    refine lv_dup2_11 hx hb dX0_carry_119 rfl rfl ?_
    have hin43 := hw.1
    have hw := hw.2
    refine co_bald S hK hH 2 22 ⟨by decide, rfl, rfl⟩ hk42 hin43 dX0_carry_120 ?_
    refine lv_iload hx hb dX0_carry_121 (lv_at hl 3 rfl) ?_
    refine lv_sipush (v := 256) hx hb dX0_carry_123 (by decide) ?_
    refine lv_irem hx hb dX0_carry_126 (by decide) ?_
    refine lv_i2b (v := (x4 - x4 / 256 * 256).toInt8.toInt32) hx hb dX0_carry_127 rfl ?_
    refine lv_ixor hx hb dX0_carry_128 ?_
    refine lv_i2b (v := ((mI M 22 (mP M 300 (mP M 105 a0 0) 0) (x4 / 256).toNatClampNeg) ^^^ ((x4 - x4 / 256 * 256).toInt8.toInt32)).toInt8.toInt32) hx hb dX0_carry_129 rfl ?_
    have hin44 := hw.1
    have hw := hw.2
    refine co_bast S hK hH hS 2 22 ⟨by decide, rfl, rfl⟩ hk42 hin44 dX0_carry_130 (fun H locs hH hS => ?_)
    obtain ⟨M45, eM45⟩ : ∃ y : Mm, y = sI M 22 (mP M 300 (mP M 105 a0 0) 0) (x4 / 256).toNatClampNeg (((mI M 22 (mP M 300 (mP M 105 a0 0) 0) (x4 / 256).toNatClampNeg) ^^^ ((x4 - x4 / 256 * 256).toInt8.toInt32)).toInt8.toInt32).toInt8.toInt32 := ⟨_, rfl⟩
    have hw := hw M45 eM45
    rw [← eM45] at hH
    have hE46 : Ext M M45 := by rw [eM45]; exact Ext.sI
    have hk47 := hE46.k hk_a0 (by decide)
    have hk48 := hE46.k hk_a5 (by decide)
    have hE := hE.tr hE46
    exact r0_carry_131 S hr hlocks hK hA  _ _ _ _ _ _ hw hE hk47 hk48 _ _ hH hS _ (lv_sub hl [0, 1, 2, 3, 4] rfl)
def w0_carry_76 (post : Int32 → Mm → Prop)  (M : Mm) (a0 : Nat) (x1 : Int32) (x2 : Int32) (x3 : Int32) (x4 : Int32) (a5 : Nat) : Prop :=
  mK M (mP M 105 a0 0) = 3 ∧ (mK M (mP M 200 a5 0) = 26 ∧ (vp_in x2 40 ∧ (mK M (mP M 26 (mP M 200 a5 0) x2.toNatClampNeg) = 3 ∧ (w2_copies (fun (M18 : Mm) => (x3 = 2 → w0_carry_101 post M18 a0 x1 x3 x4 a5) ∧ (¬ x3 = 2 → w1_goes (fun (M49 : Mm) => w0_carry_101 post M49 a0 x1 x3 x4 a5) M18 a5 x2)) M (mP M 105 a0 0) (mP M 26 (mP M 200 a5 0) x2.toNatClampNeg)))))
set_option maxHeartbeats 4000000 in
set_option maxRecDepth 100000 in
theorem r0_carry_76 {p : Program} {l : Launch} {e : Env} {s : State} {m : MethodId} {args : Array Value} {below : List Frame} {meth : Method} {c : Code} {g : CG} {AD : Nat → Prop} {M0 : Mm} (S : CallFix p m c cX0_carry 6 s args lw_all RX0) (hr : meth.sig.returnType = (some .int)) (hlocks : meth.locks = false) (hK : KC g s) (hA : ∀ q, s.heap.size ≤ q → AD q) {post : Int32 → Mm → Prop}  : ∀ (M : Mm) (a0 : Nat) (x1 : Int32) (x2 : Int32) (x3 : Int32) (x4 : Int32) (a5 : Nat), w0_carry_76 post  M a0 x1 x2 x3 x4 a5 → Ext M0 M → mK M a0 = 1 → mK M a5 = 2 → ∀ (H : Heap) (locs : List Loc), HC g AD M H → va_S AD s.heap H locs → ∀ (ls : Array Slot), lv_has ls 6 [(0, .ref a0), (1, .int x1), (2, .int x2), (3, .int x3), (4, .int x4), (5, .ref a5)] → W p l e rm0_carry s m args below meth c H locs 0 0 (MQ below (CQi g AD M0 post) args s 0 0 AD) (F0 m 76 ls []) := by
  have hx := S.1
  have hb := S.2.1
  have hown := S.2.2.2.1
  have hts := S.2.2.2.2
  intro M a0 x1 x2 x3 x4 a5 hw hE hk_a0 hk_a5 H locs hH hS ls hl
  unfold w0_carry_76 at hw
  refine lv_aload_n hx hb dX0_carry_76 rfl (lv_at hl 0 rfl) ?_
  have hk14 := hw.1
  have hw := hw.2
  refine co_getr S hK hH 0 5 105 (by decide) ⟨by decide, rfl, rfl, rfl⟩ (Or.inl q266) hk_a0 (by rw [hk14]; decide) dX0_carry_77 ?_
  refine lv_aload hx hb dX0_carry_80 (lv_at hl 5 rfl) ?_
  have hk15 := hw.1
  have hw := hw.2
  refine co_getr S hK hH 1 0 200 (by decide) ⟨by decide, rfl, rfl, rfl⟩ (Or.inr ⟨_, q109⟩) hk_a5 (by rw [hk15]; decide) dX0_carry_82 ?_
  refine lv_iload_n hx hb dX0_carry_85 rfl (lv_at hl 2 rfl) ?_
  have hin16 := hw.1
  have hw := hw.2
  have hk17 := hw.1
  have hw := hw.2
  refine co_aald S hK hH 6 26 ⟨by decide, rfl, rfl⟩ hk15 hin16 (by rw [hk17]; decide) dX0_carry_86 ?_
  refine co_callv (va_runV (As := [.ref (mP M 26 (mP M 200 a5 0) x2.toNatClampNeg)]) (rest := []) S (m2_copies l g AD M (mP M 105 a0 0) (mP M 26 (mP M 200 a5 0) x2.toNatClampNeg) _ hk14 hk17 hw) (cwV 1 hts (lw_V q607 q608 q609 q56 q610) rfl rfl rfl (by decide +kernel) ⟨Nat.le_of_ble_eq_true rfl, Nat.le_of_ble_eq_true rfl⟩) ⟨co_blind, co_recv hK hH (c := 2) (by decide) hk14, co_pre hK hH hA hS⟩ rfl rfl hl.1 rfl (lv_room (Nat.le_of_ble_eq_true rfl)) dX0_carry_87 ⟨Nat.le_refl _, Nat.le_refl _⟩) hS (fun M18 H locs hw hH hE20 hS => ?_)
  have hk22 := hE20.k hk_a0 (by decide)
  have hk23 := hE20.k hk_a5 (by decide)
  have hE := hE.tr hE20
  refine lv_iload_n hx hb dX0_carry_90 rfl (lv_at hl 3 rfl) ?_
  refine lv_iconst (v := 2) hx hb dX0_carry_91 (by decide) ?_
  refine lv_icmp_eq (tgt := 101) hx hb dX0_carry_92 (by decide) (fun c24 => ?_) (fun c24 => ?_)
  · have hw := hw.1 c24
    exact r0_carry_101 S hr hlocks hK hA  _ _ _ _ _ _ hw hE hk22 hk23 _ _ hH hS _ (lv_sub hl [0, 1, 3, 4, 5] rfl)
  · have hw := hw.2 c24
    refine lv_aload hx hb dX0_carry_95 (lv_at hl 5 rfl) ?_
    refine lv_iload_n hx hb dX0_carry_97 rfl (lv_at hl 2 rfl) ?_
    refine co_callv (va_runV (As := [.int x2]) (rest := []) S (m1_goes l g AD M18 a5 x2 _ hk23 hw) (cwV 1 hts (lw_V q621 q622 q623 q55 q624) rfl rfl rfl (by decide +kernel) ⟨Nat.le_of_ble_eq_true rfl, Nat.le_of_ble_eq_true rfl⟩) ⟨co_blind, co_recv hK hH (c := 1) (by decide) hk23, co_pre hK hH hA hS⟩ rfl rfl hl.1 rfl (lv_room (Nat.le_of_ble_eq_true rfl)) dX0_carry_98 ⟨Nat.le_refl _, Nat.le_refl _⟩) hS (fun M49 H locs hw hH hE51 hS => ?_)
    have hk53 := hE51.k hk22 (by decide)
    have hk54 := hE51.k hk23 (by decide)
    have hE := hE.tr hE51
    exact r0_carry_101 S hr hlocks hK hA  _ _ _ _ _ _ hw hE hk53 hk54 _ _ hH hS _ (lv_sub hl [0, 1, 3, 4, 5] rfl)
def w0_carry (post : Int32 → Mm → Prop) (M : Mm) (a0 : Nat) (x1 : Int32) (x2 : Int32) (x3 : Int32) (x4 : Int32) : Prop :=
  (x1 < 0 → post (-1) M) ∧ (¬ x1 < 0 → (1 < x1 → post (-1) M) ∧ (¬ 1 < x1 → (x2 < 0 → post (-1) M) ∧ (¬ x2 < 0 → mK M (mP M 104 a0 0) = 27 ∧ (vp_in x1 2 ∧ (mK M (mP M 27 (mP M 104 a0 0) x1.toNatClampNeg) = 2 ∧ (((mI M 201 (mP M 27 (mP M 104 a0 0) x1.toNatClampNeg) 0) ≤ x2 → post (-1) M) ∧ (¬ (mI M 201 (mP M 27 (mP M 104 a0 0) x1.toNatClampNeg) 0) ≤ x2 → (x3 < 0 → post (-1) M) ∧ (¬ x3 < 0 → (x3 ≤ 3 → mK M (mP M 104 a0 0) = 27 ∧ (vp_in x1 2 ∧ (mK M (mP M 27 (mP M 104 a0 0) x1.toNatClampNeg) = 2 ∧ ((x3 = 3 → (x4 < 0 → post (-1) M) ∧ (¬ x4 < 0 → mK M (mP M 200 (mP M 27 (mP M 104 a0 0) x1.toNatClampNeg) 0) = 26 ∧ (vp_in x2 40 ∧ (mK M (mP M 26 (mP M 200 (mP M 27 (mP M 104 a0 0) x1.toNatClampNeg) 0) x2.toNatClampNeg) = 3 ∧ (((x4 / 256) < (mI M 301 (mP M 26 (mP M 200 (mP M 27 (mP M 104 a0 0) x1.toNatClampNeg) 0) x2.toNatClampNeg) 0) → w0_carry_76 post M a0 x1 x2 x3 x4 (mP M 27 (mP M 104 a0 0) x1.toNatClampNeg)) ∧ (¬ (x4 / 256) < (mI M 301 (mP M 26 (mP M 200 (mP M 27 (mP M 104 a0 0) x1.toNatClampNeg) 0) x2.toNatClampNeg) 0) → post (-1) M)))))) ∧ (¬ x3 = 3 → w0_carry_76 post M a0 x1 x2 x3 x4 (mP M 27 (mP M 104 a0 0) x1.toNatClampNeg)))))) ∧ (¬ x3 ≤ 3 → post (-1) M)))))))))
set_option maxHeartbeats 4000000 in
set_option maxRecDepth 100000 in
theorem m0_carry (l : Launch) (g : CG) (AD : Nat → Prop) (M : Mm) (a0 : Nat) (x1 : Int32) (x2 : Int32) (x3 : Int32) (x4 : Int32) (post : Int32 → Mm → Prop) (hk_a0 : mK M a0 = 1) (hw : w0_carry post M a0 x1 x2 x3 x4) : Met l yX0_carry (ws_ yX0_carry cX0_carry 6 (some .int)) rm0_carry (CPc g AD M [.ref a0, .int x1, .int x2, .int x3, .int x4]) (CQi g AD M post) 0 0 AD := by
  refine Met.ofW (cc := cX0_carry) (maxL := 6) (ret := (some .int)) (by decide) rfl ?_
  intro p e s m args below meth c s₁ B hml hv
  obtain ⟨rfl, hK, hH, hA⟩ := hv
  have hx := B.exec
  have hb := B.bytes
  have hr : meth.sig.returnType = (some .int) := B.returns
  have hts := atoms_spec (ws := ws_ yX0_carry cX0_carry 6 (some .int)) B.pre
  have hts : ∀ w ∈ lw_all, w.before _ s = true := fun w h => hts w (List.mem_cons_of_mem _ h)
  have hown : s.vm.findClass RX0 = some m.cls := findClass_of_methodNamed B.named
  have hlocks : meth.locks = false := B.notSynchronized
  have S : CallFix p m c cX0_carry 6 s _ lw_all RX0 := ⟨hx, hb, hml, hown, hts⟩
  have hS : va_S AD s.heap s.heap [] := va_S.rf
  have hE : Ext M M := Ext.rf
  have hl := lv_entry ([.ref a0, .int x1, .int x2, .int x3, .int x4]) (n := 6) (Nat.le_of_ble_eq_true rfl)
  rw [lg_entry_eq]
  generalize (lg_sl ([.ref a0, .int x1, .int x2, .int x3, .int x4]) ++ List.replicate (6 - (lg_sl ([.ref a0, .int x1, .int x2, .int x3, .int x4])).length) Slot.unset).toArray = ls at hl ⊢
  have hl : lv_has ls 6 [(0, .ref a0), (1, .int x1), (2, .int x2), (3, .int x3), (4, .int x4)] := hl
  unfold w0_carry at hw
  refine lv_iload_n hx hb dX0_carry_0 rfl (lv_at hl 1 rfl) ?_
  refine lv_if_lt (tgt := 35) hx hb dX0_carry_1 (by decide) (fun c1 => ?_) (fun c1 => ?_)
  · have hw := hw.1 c1
    refine lv_iconst (v := (-1)) hx hb dX0_carry_35 (by decide) ?_
    exact co_iret S hr hlocks hH hE hS hw dX0_carry_36
  · have hw := hw.2 c1
    refine lv_iload_n hx hb dX0_carry_4 rfl (lv_at hl 1 rfl) ?_
    refine lv_iconst (v := 1) hx hb dX0_carry_5 (by decide) ?_
    refine lv_icmp_gt (tgt := 35) hx hb dX0_carry_6 (by decide) (fun c2 => ?_) (fun c2 => ?_)
    · have hw := hw.1 c2
      refine lv_iconst (v := (-1)) hx hb dX0_carry_35 (by decide) ?_
      exact co_iret S hr hlocks hH hE hS hw dX0_carry_36
    · have hw := hw.2 c2
      refine lv_iload_n hx hb dX0_carry_9 rfl (lv_at hl 2 rfl) ?_
      refine lv_if_lt (tgt := 35) hx hb dX0_carry_10 (by decide) (fun c3 => ?_) (fun c3 => ?_)
      · have hw := hw.1 c3
        refine lv_iconst (v := (-1)) hx hb dX0_carry_35 (by decide) ?_
        exact co_iret S hr hlocks hH hE hS hw dX0_carry_36
      · have hw := hw.2 c3
        refine lv_iload_n hx hb dX0_carry_13 rfl (lv_at hl 2 rfl) ?_
        refine lv_aload_n hx hb dX0_carry_14 rfl (lv_at hl 0 rfl) ?_
        have hk4 := hw.1
        have hw := hw.2
        refine co_getr S hK hH 0 4 104 (by decide) ⟨by decide, rfl, rfl, rfl⟩ (Or.inl q265) hk_a0 (by rw [hk4]; decide) dX0_carry_15 ?_
        refine lv_iload_n hx hb dX0_carry_18 rfl (lv_at hl 1 rfl) ?_
        have hin5 := hw.1
        have hw := hw.2
        have hk6 := hw.1
        have hw := hw.2
        refine co_aald S hK hH 7 27 ⟨by decide, rfl, rfl⟩ hk4 hin5 (by rw [hk6]; decide) dX0_carry_19 ?_
        refine co_geti S hK hH 1 1 201 (by decide) ⟨by decide, rfl, rfl, rfl⟩ (Or.inr ⟨_, q111⟩) hk6 dX0_carry_20 ?_
        refine lv_icmp_ge (tgt := 35) hx hb dX0_carry_23 (by decide) (fun c7 => ?_) (fun c7 => ?_)
        · have hw := hw.1 c7
          refine lv_iconst (v := (-1)) hx hb dX0_carry_35 (by decide) ?_
          exact co_iret S hr hlocks hH hE hS hw dX0_carry_36
        · have hw := hw.2 c7
          refine lv_iload_n hx hb dX0_carry_26 rfl (lv_at hl 3 rfl) ?_
          refine lv_if_lt (tgt := 35) hx hb dX0_carry_27 (by decide) (fun c8 => ?_) (fun c8 => ?_)
          · have hw := hw.1 c8
            refine lv_iconst (v := (-1)) hx hb dX0_carry_35 (by decide) ?_
            exact co_iret S hr hlocks hH hE hS hw dX0_carry_36
          · have hw := hw.2 c8
            refine lv_iload_n hx hb dX0_carry_30 rfl (lv_at hl 3 rfl) ?_
            refine lv_iconst (v := 3) hx hb dX0_carry_31 (by decide) ?_
            refine lv_icmp_le (tgt := 37) hx hb dX0_carry_32 (by decide) (fun c9 => ?_) (fun c9 => ?_)
            · have hw := hw.1 c9
              refine lv_aload_n hx hb dX0_carry_37 rfl (lv_at hl 0 rfl) ?_
              have hk10 := hw.1
              have hw := hw.2
              refine co_getr S hK hH 0 4 104 (by decide) ⟨by decide, rfl, rfl, rfl⟩ (Or.inl q265) hk_a0 (by rw [hk10]; decide) dX0_carry_38 ?_
              refine lv_iload_n hx hb dX0_carry_41 rfl (lv_at hl 1 rfl) ?_
              have hin11 := hw.1
              have hw := hw.2
              have hk12 := hw.1
              have hw := hw.2
              refine co_aald S hK hH 7 27 ⟨by decide, rfl, rfl⟩ hk10 hin11 (by rw [hk12]; decide) dX0_carry_42 ?_
              refine lv_astore (lv' := [(5, .ref (mP M 27 (mP M 104 a0 0) x1.toNatClampNeg)), (0, .ref a0), (1, .int x1), (2, .int x2), (3, .int x3), (4, .int x4)]) hx hb dX0_carry_43 hl (by decide) rfl (fun ls hl => ?_)
              refine lv_iload_n hx hb dX0_carry_45 rfl (lv_at hl 4 rfl) ?_
              refine lv_iconst (v := 3) hx hb dX0_carry_46 (by decide) ?_
              refine lv_icmp_ne (tgt := 76) hx hb dX0_carry_47 (by decide) (fun c13 => ?_) (fun c13 => ?_)
              · have hw := hw.2 c13
                exact r0_carry_76 S hr hlocks hK hA  _ _ _ _ _ _ _ hw hE hk_a0 hk12 _ _ hH hS _ (lv_sub hl [1, 2, 3, 4, 5, 0] rfl)
              · have hw := hw.1 c13
                refine lv_iload hx hb dX0_carry_50 (lv_at hl 5 rfl) ?_
                refine lv_if_lt (tgt := 74) hx hb dX0_carry_52 (by decide) (fun c55 => ?_) (fun c55 => ?_)
                · have hw := hw.1 c55
                  refine lv_iconst (v := (-1)) hx hb dX0_carry_74 (by decide) ?_
                  exact co_iret S hr hlocks hH hE hS hw dX0_carry_75
                · have hw := hw.2 c55
                  refine lv_iload hx hb dX0_carry_55 (lv_at hl 5 rfl) ?_
                  refine lv_sipush (v := 256) hx hb dX0_carry_57 (by decide) ?_
                  refine lv_idiv hx hb dX0_carry_60 (by decide) ?_
                  refine lv_aload hx hb dX0_carry_61 (lv_at hl 0 rfl) ?_
                  have hk56 := hw.1
                  have hw := hw.2
                  refine co_getr S hK hH 1 0 200 (by decide) ⟨by decide, rfl, rfl, rfl⟩ (Or.inr ⟨_, q109⟩) hk12 (by rw [hk56]; decide) dX0_carry_63 ?_
                  refine lv_iload_n hx hb dX0_carry_66 rfl (lv_at hl 3 rfl) ?_
                  have hin57 := hw.1
                  have hw := hw.2
                  have hk58 := hw.1
                  have hw := hw.2
                  refine co_aald S hK hH 6 26 ⟨by decide, rfl, rfl⟩ hk56 hin57 (by rw [hk58]; decide) dX0_carry_67 ?_
                  refine co_geti S hK hH 2 1 301 (by decide) ⟨by decide, rfl, rfl, rfl⟩ (Or.inr ⟨_, q100⟩) hk58 dX0_carry_68 ?_
                  refine lv_icmp_lt (tgt := 76) hx hb dX0_carry_71 (by decide) (fun c59 => ?_) (fun c59 => ?_)
                  · have hw := hw.1 c59
                    exact r0_carry_76 S hr hlocks hK hA  _ _ _ _ _ _ _ hw hE hk_a0 hk12 _ _ hH hS _ (lv_sub hl [1, 2, 3, 4, 5, 0] rfl)
                  · have hw := hw.2 c59
                    refine lv_iconst (v := (-1)) hx hb dX0_carry_74 (by decide) ?_
                    exact co_iret S hr hlocks hH hE hS hw dX0_carry_75
            · have hw := hw.2 c9
              refine lv_iconst (v := (-1)) hx hb dX0_carry_35 (by decide) ?_
              exact co_iret S hr hlocks hH hE hS hw dX0_carry_36
/-! FarTypewriter.count(I)I -/
abbrev rm0_count : Room := { frames := 0, cells := 0, slots := 0, locals := 0 }
def w0_count_20 (post : Int32 → Mm → Prop)  (M : Mm) (a0 : Nat) (x1 : Int32) : Prop :=
  (x1 = 10 → post (mI M 102 a0 0) M) ∧ (x1 = 11 → post (mI M 128 a0 0) M) ∧ (x1 = 12 → post (mI M 130 a0 0) M) ∧ (x1 = 13 → post (mI M 129 a0 0) M) ∧ (x1 = 14 → mK M (mP M 104 a0 0) = 27 ∧ (vp_in (x1 - 14) 2 ∧ (mK M (mP M 27 (mP M 104 a0 0) (x1 - 14).toNatClampNeg) = 2 ∧ (post (mI M 201 (mP M 27 (mP M 104 a0 0) (x1 - 14).toNatClampNeg) 0) M)))) ∧ (x1 = 15 → mK M (mP M 104 a0 0) = 27 ∧ (vp_in (x1 - 14) 2 ∧ (mK M (mP M 27 (mP M 104 a0 0) (x1 - 14).toNatClampNeg) = 2 ∧ (post (mI M 201 (mP M 27 (mP M 104 a0 0) (x1 - 14).toNatClampNeg) 0) M)))) ∧ (¬ x1 = 10 → ¬ x1 = 11 → ¬ x1 = 12 → ¬ x1 = 13 → ¬ x1 = 14 → ¬ x1 = 15 → post (-1) M)
set_option maxHeartbeats 4000000 in
set_option maxRecDepth 100000 in
theorem r0_count_20 {p : Program} {l : Launch} {e : Env} {s : State} {m : MethodId} {args : Array Value} {below : List Frame} {meth : Method} {c : Code} {g : CG} {AD : Nat → Prop} {M0 : Mm} (S : CallFix p m c cX0_count 2 s args lw_all RX0) (hr : meth.sig.returnType = (some .int)) (hlocks : meth.locks = false) (hK : KC g s) (hA : ∀ q, s.heap.size ≤ q → AD q) {post : Int32 → Mm → Prop}  : ∀ (M : Mm) (a0 : Nat) (x1 : Int32), w0_count_20 post  M a0 x1 → Ext M0 M → mK M a0 = 1 → ∀ (H : Heap) (locs : List Loc), HC g AD M H → va_S AD s.heap H locs → ∀ (ls : Array Slot), lv_has ls 2 [(0, .ref a0), (1, .int x1)] → W p l e rm0_count s m args below meth c H locs 0 0 (MQ below (CQi g AD M0 post) args s 0 0 AD) (F0 m 20 ls []) := by
  have hx := S.1
  have hb := S.2.1
  have hown := S.2.2.2.1
  have hts := S.2.2.2.2
  intro M a0 x1 hw hE hk_a0 H locs hH hS ls hl
  unfold w0_count_20 at hw
  refine lv_iload_n hx hb dX0_count_20 rfl (lv_at hl 1 rfl) ?_
  by_cases cs10 : x1 = 10
  · have hw := hw.1 cs10
    refine lv_tableIn (off := 39) (tgt := 60) hx hb dX0_count_21 (by rw [cs10]; decide) (by rw [cs10]; decide) (by rw [cs10]; decide) (by decide) ?_
    refine lv_aload_n hx hb dX0_count_60 rfl (lv_at hl 0 rfl) ?_
    refine co_geti S hK hH 0 2 102 (by decide) ⟨by decide, rfl, rfl, rfl⟩ (Or.inl q263) hk_a0 dX0_count_61 ?_
    exact co_iret S hr hlocks hH hE hS hw dX0_count_64
  by_cases cs11 : x1 = 11
  · have hw := hw.2.1 cs11
    refine lv_tableIn (off := 44) (tgt := 65) hx hb dX0_count_21 (by rw [cs11]; decide) (by rw [cs11]; decide) (by rw [cs11]; decide) (by decide) ?_
    refine lv_aload_n hx hb dX0_count_65 rfl (lv_at hl 0 rfl) ?_
    refine co_geti S hK hH 0 28 128 (by decide) ⟨by decide, rfl, rfl, rfl⟩ (Or.inl q289) hk_a0 dX0_count_66 ?_
    exact co_iret S hr hlocks hH hE hS hw dX0_count_69
  by_cases cs12 : x1 = 12
  · have hw := hw.2.2.1 cs12
    refine lv_tableIn (off := 49) (tgt := 70) hx hb dX0_count_21 (by rw [cs12]; decide) (by rw [cs12]; decide) (by rw [cs12]; decide) (by decide) ?_
    refine lv_aload_n hx hb dX0_count_70 rfl (lv_at hl 0 rfl) ?_
    refine co_geti S hK hH 0 30 130 (by decide) ⟨by decide, rfl, rfl, rfl⟩ (Or.inl q291) hk_a0 dX0_count_71 ?_
    exact co_iret S hr hlocks hH hE hS hw dX0_count_74
  by_cases cs13 : x1 = 13
  · have hw := hw.2.2.2.1 cs13
    refine lv_tableIn (off := 54) (tgt := 75) hx hb dX0_count_21 (by rw [cs13]; decide) (by rw [cs13]; decide) (by rw [cs13]; decide) (by decide) ?_
    refine lv_aload_n hx hb dX0_count_75 rfl (lv_at hl 0 rfl) ?_
    refine co_geti S hK hH 0 29 129 (by decide) ⟨by decide, rfl, rfl, rfl⟩ (Or.inl q290) hk_a0 dX0_count_76 ?_
    exact co_iret S hr hlocks hH hE hS hw dX0_count_79
  by_cases cs14 : x1 = 14
  · have hw := hw.2.2.2.2.1 cs14
    refine lv_tableIn (off := 59) (tgt := 80) hx hb dX0_count_21 (by rw [cs14]; decide) (by rw [cs14]; decide) (by rw [cs14]; decide) (by decide) ?_
    refine lv_aload_n hx hb dX0_count_80 rfl (lv_at hl 0 rfl) ?_
    have hk2 := hw.1
    have hw := hw.2
    refine co_getr S hK hH 0 4 104 (by decide) ⟨by decide, rfl, rfl, rfl⟩ (Or.inl q265) hk_a0 (by rw [hk2]; decide) dX0_count_81 ?_
    refine lv_iload_n hx hb dX0_count_84 rfl (lv_at hl 1 rfl) ?_
    refine lv_bipush (v := 14) hx hb dX0_count_85 (by decide) ?_
    refine lv_isub hx hb dX0_count_87 ?_
    have hin3 := hw.1
    have hw := hw.2
    have hk4 := hw.1
    have hw := hw.2
    refine co_aald S hK hH 7 27 ⟨by decide, rfl, rfl⟩ hk2 hin3 (by rw [hk4]; decide) dX0_count_88 ?_
    refine co_geti S hK hH 1 1 201 (by decide) ⟨by decide, rfl, rfl, rfl⟩ (Or.inr ⟨_, q111⟩) hk4 dX0_count_89 ?_
    exact co_iret S hr hlocks hH hE hS hw dX0_count_92
  by_cases cs15 : x1 = 15
  · have hw := hw.2.2.2.2.2.1 cs15
    refine lv_tableIn (off := 59) (tgt := 80) hx hb dX0_count_21 (by rw [cs15]; decide) (by rw [cs15]; decide) (by rw [cs15]; decide) (by decide) ?_
    refine lv_aload_n hx hb dX0_count_80 rfl (lv_at hl 0 rfl) ?_
    have hk5 := hw.1
    have hw := hw.2
    refine co_getr S hK hH 0 4 104 (by decide) ⟨by decide, rfl, rfl, rfl⟩ (Or.inl q265) hk_a0 (by rw [hk5]; decide) dX0_count_81 ?_
    refine lv_iload_n hx hb dX0_count_84 rfl (lv_at hl 1 rfl) ?_
    refine lv_bipush (v := 14) hx hb dX0_count_85 (by decide) ?_
    refine lv_isub hx hb dX0_count_87 ?_
    have hin6 := hw.1
    have hw := hw.2
    have hk7 := hw.1
    have hw := hw.2
    refine co_aald S hK hH 7 27 ⟨by decide, rfl, rfl⟩ hk5 hin6 (by rw [hk7]; decide) dX0_count_88 ?_
    refine co_geti S hK hH 1 1 201 (by decide) ⟨by decide, rfl, rfl, rfl⟩ (Or.inr ⟨_, q111⟩) hk7 dX0_count_89 ?_
    exact co_iret S hr hlocks hH hE hS hw dX0_count_92
  have hw := hw.2.2.2.2.2.2 cs10 cs11 cs12 cs13 cs14 cs15
  have ne10 := lv_neT (a := 10) cs10 rfl
  have ne11 := lv_neT (a := 11) cs11 rfl
  have ne12 := lv_neT (a := 12) cs12 rfl
  have ne13 := lv_neT (a := 13) cs13 rfl
  have ne14 := lv_neT (a := 14) cs14 rfl
  have ne15 := lv_neT (a := 15) cs15 rfl
  refine lv_tableOut (tgt := 93) hx hb dX0_count_21 (by omega) (by decide) ?_
  refine lv_iconst (v := (-1)) hx hb dX0_count_93 (by decide) ?_
  exact co_iret S hr hlocks hH hE hS hw dX0_count_94
def w0_count (post : Int32 → Mm → Prop) (M : Mm) (a0 : Nat) (x1 : Int32) : Prop :=
  (x1 < 0 → w0_count_20 post M a0 x1) ∧ (¬ x1 < 0 → mK M (mP M 103 a0 0) = 24 ∧ ((10 ≤ x1 → w0_count_20 post M a0 x1) ∧ (¬ 10 ≤ x1 → mK M (mP M 103 a0 0) = 24 ∧ (vp_in x1 10 ∧ (post (mI M 24 (mP M 103 a0 0) x1.toNatClampNeg) M)))))
set_option maxHeartbeats 4000000 in
set_option maxRecDepth 100000 in
theorem m0_count (l : Launch) (g : CG) (AD : Nat → Prop) (M : Mm) (a0 : Nat) (x1 : Int32) (post : Int32 → Mm → Prop) (hk_a0 : mK M a0 = 1) (hw : w0_count post M a0 x1) : Met l yX0_count (ws_ yX0_count cX0_count 2 (some .int)) rm0_count (CPc g AD M [.ref a0, .int x1]) (CQi g AD M post) 0 0 AD := by
  refine Met.ofW (cc := cX0_count) (maxL := 2) (ret := (some .int)) (by decide) rfl ?_
  intro p e s m args below meth c s₁ B hml hv
  obtain ⟨rfl, hK, hH, hA⟩ := hv
  have hx := B.exec
  have hb := B.bytes
  have hr : meth.sig.returnType = (some .int) := B.returns
  have hts := atoms_spec (ws := ws_ yX0_count cX0_count 2 (some .int)) B.pre
  have hts : ∀ w ∈ lw_all, w.before _ s = true := fun w h => hts w (List.mem_cons_of_mem _ h)
  have hown : s.vm.findClass RX0 = some m.cls := findClass_of_methodNamed B.named
  have hlocks : meth.locks = false := B.notSynchronized
  have S : CallFix p m c cX0_count 2 s _ lw_all RX0 := ⟨hx, hb, hml, hown, hts⟩
  have hS : va_S AD s.heap s.heap [] := va_S.rf
  have hE : Ext M M := Ext.rf
  have hl := lv_entry ([.ref a0, .int x1]) (n := 2) (Nat.le_of_ble_eq_true rfl)
  rw [lg_entry_eq]
  generalize (lg_sl ([.ref a0, .int x1]) ++ List.replicate (2 - (lg_sl ([.ref a0, .int x1])).length) Slot.unset).toArray = ls at hl ⊢
  have hl : lv_has ls 2 [(0, .ref a0), (1, .int x1)] := hl
  unfold w0_count at hw
  refine lv_iload_n hx hb dX0_count_0 rfl (lv_at hl 1 rfl) ?_
  refine lv_if_lt (tgt := 20) hx hb dX0_count_1 (by decide) (fun c1 => ?_) (fun c1 => ?_)
  · have hw := hw.1 c1
    exact r0_count_20 S hr hlocks hK hA  _ _ _ hw hE hk_a0 _ _ hH hS _ (lv_sub hl [0, 1] rfl)
  · have hw := hw.2 c1
    refine lv_iload_n hx hb dX0_count_4 rfl (lv_at hl 1 rfl) ?_
    refine lv_aload_n hx hb dX0_count_5 rfl (lv_at hl 0 rfl) ?_
    have hk8 := hw.1
    have hw := hw.2
    refine co_getr S hK hH 0 3 103 (by decide) ⟨by decide, rfl, rfl, rfl⟩ (Or.inl q264) hk_a0 (by rw [hk8]; decide) dX0_count_6 ?_
    refine co_alen (v := 10) S hK hH 4 24 ⟨by decide, rfl⟩ hk8 (by decide) dX0_count_9 ?_
    refine lv_icmp_ge (tgt := 20) hx hb dX0_count_10 (by decide) (fun c9 => ?_) (fun c9 => ?_)
    · have hw := hw.1 c9
      exact r0_count_20 S hr hlocks hK hA  _ _ _ hw hE hk_a0 _ _ hH hS _ (lv_sub hl [0, 1] rfl)
    · have hw := hw.2 c9
      refine lv_aload_n hx hb dX0_count_13 rfl (lv_at hl 0 rfl) ?_
      have hk10 := hw.1
      have hw := hw.2
      refine co_getr S hK hH 0 3 103 (by decide) ⟨by decide, rfl, rfl, rfl⟩ (Or.inl q264) hk_a0 (by rw [hk10]; decide) dX0_count_14 ?_
      refine lv_iload_n hx hb dX0_count_17 rfl (lv_at hl 1 rfl) ?_
      have hin11 := hw.1
      have hw := hw.2
      refine co_iald S hK hH 4 24 ⟨by decide, rfl, rfl⟩ hk10 hin11 dX0_count_18 ?_
      exact co_iret S hr hlocks hH hE hS hw dX0_count_19
/-! FarTypewriter.laid(I)LFarTypewriter$Screen; -/
abbrev rm0_laid : Room := { frames := 2, cells := 0, slots := 0, locals := 222 }
def w0_laid_53 (post : Nat → Mm → Prop) (kb : Mm → Nat → Int32 → Int32 → Prop) (M : Mm) (a0 : Nat) (x1 : Int32) (x2 : Int32) : Prop :=
  kb M a0 x1 (x2 + 1)
set_option maxHeartbeats 4000000 in
set_option maxRecDepth 100000 in
theorem r0_laid_53 {p : Program} {l : Launch} {e : Env} {s : State} {m : MethodId} {args : Array Value} {below : List Frame} {meth : Method} {c : Code} {g : CG} {AD : Nat → Prop} {M0 : Mm} (S : CallFix p m c cX0_laid 3 s args lw_all RX0) (hr : meth.sig.returnType = (some (.object "FarTypewriter$Screen"))) (hlocks : meth.locks = false) (hK : KC g s) (hA : ∀ q, s.heap.size ≤ q → AD q) {post : Nat → Mm → Prop} {kb : Mm → Nat → Int32 → Int32 → Prop} (hkb : ∀ (M : Mm) (a0 : Nat) (x1 : Int32) (x2 : Int32), kb M a0 x1 x2 → Ext M0 M → mK M a0 = 1 → ∀ (H : Heap) (locs : List Loc), HC g AD M H → va_S AD s.heap H locs → ∀ (ls : Array Slot), lv_has ls 3 [(0, .ref a0), (1, .int x1), (2, .int x2)] → W p l e rm0_laid s m args below meth c H locs 0 0 (MQ below (CQr g AD M0 (fun k => k = 6) post) args s 0 0 AD) (F0 m 19 ls [])) : ∀ (M : Mm) (a0 : Nat) (x1 : Int32) (x2 : Int32), w0_laid_53 post kb M a0 x1 x2 → Ext M0 M → mK M a0 = 1 → ∀ (H : Heap) (locs : List Loc), HC g AD M H → va_S AD s.heap H locs → ∀ (ls : Array Slot), lv_has ls 3 [(0, .ref a0), (1, .int x1), (2, .int x2)] → W p l e rm0_laid s m args below meth c H locs 0 0 (MQ below (CQr g AD M0 (fun k => k = 6) post) args s 0 0 AD) (F0 m 53 ls []) := by
  have hx := S.1
  have hb := S.2.1
  have hown := S.2.2.2.1
  have hts := S.2.2.2.2
  intro M a0 x1 x2 hw hE hk_a0 H locs hH hS ls hl
  unfold w0_laid_53 at hw
  refine lv_iinc (v := x2 + 1) (lv' := [(2, .int (x2 + 1)), (0, .ref a0), (1, .int x1)]) hx hb dX0_laid_53 hl (k := 2) rfl rfl (by decide) rfl (fun ls hl => ?_)
  refine lv_goto (tgt := 19) hx hb dX0_laid_56 (by decide) ?_
  exact hkb _ _ _ _ hw hE hk_a0 _ _ hH hS _ (lv_sub hl [1, 2, 0] rfl)
def b0_laid_19 (post : Nat → Mm → Prop)  (kb : Mm → Nat → Int32 → Int32 → Prop) (M : Mm) (a0 : Nat) (x1 : Int32) (x2 : Int32) : Prop :=
  ((mI M 128 a0 0) ≤ x2 → mK M (mP M 131 a0 0) = 6 ∧ (post (mP M 131 a0 0) M)) ∧ (¬ (mI M 128 a0 0) ≤ x2 → mK M (mP M 127 a0 0) = 28 ∧ (vp_in x2 60 ∧ (mK M (mP M 28 (mP M 127 a0 0) x2.toNatClampNeg) = 9 ∧ ((x1 < (mI M 901 (mP M 28 (mP M 127 a0 0) x2.toNatClampNeg) 0) → w0_laid_53 post kb M a0 x1 x2) ∧ (¬ x1 < (mI M 901 (mP M 28 (mP M 127 a0 0) x2.toNatClampNeg) 0) → mK M (mP M 127 a0 0) = 28 ∧ (vp_in x2 60 ∧ (mK M (mP M 28 (mP M 127 a0 0) x2.toNatClampNeg) = 9 ∧ (mK M (mP M 131 a0 0) = 6 ∧ (w8_lays (fun (M25 : Mm) => w0_laid_53 post kb M25 a0 x1 x2) M (mP M 28 (mP M 127 a0 0) x2.toNatClampNeg) (mP M 131 a0 0))))))))))
def w0_laid_19 (post : Nat → Mm → Prop)  : Nat → Mm → Nat → Int32 → Int32 → Prop
  | 0 => fun _ _ _ _ => False
  | n + 1 => b0_laid_19 post  (w0_laid_19 post  n)
set_option maxHeartbeats 4000000 in
set_option maxRecDepth 100000 in
theorem r0_laid_19 {p : Program} {l : Launch} {e : Env} {s : State} {m : MethodId} {args : Array Value} {below : List Frame} {meth : Method} {c : Code} {g : CG} {AD : Nat → Prop} {M0 : Mm} (S : CallFix p m c cX0_laid 3 s args lw_all RX0) (hr : meth.sig.returnType = (some (.object "FarTypewriter$Screen"))) (hlocks : meth.locks = false) (hK : KC g s) (hA : ∀ q, s.heap.size ≤ q → AD q) {post : Nat → Mm → Prop}  : ∀ n : Nat, ∀ (M : Mm) (a0 : Nat) (x1 : Int32) (x2 : Int32), w0_laid_19 post  n M a0 x1 x2 → Ext M0 M → mK M a0 = 1 → ∀ (H : Heap) (locs : List Loc), HC g AD M H → va_S AD s.heap H locs → ∀ (ls : Array Slot), lv_has ls 3 [(0, .ref a0), (1, .int x1), (2, .int x2)] → W p l e rm0_laid s m args below meth c H locs 0 0 (MQ below (CQr g AD M0 (fun k => k = 6) post) args s 0 0 AD) (F0 m 19 ls []) := by
  have hx := S.1
  have hb := S.2.1
  have hown := S.2.2.2.1
  have hts := S.2.2.2.2
  intro n
  induction n with
  | zero =>
    intro M a0 x1 x2 hw
    exact hw.elim
  | succ n hkb =>
    intro M a0 x1 x2 hw hE hk_a0 H locs hH hS ls hl
    unfold w0_laid_19 b0_laid_19 at hw
    refine lv_iload_n hx hb dX0_laid_19 rfl (lv_at hl 2 rfl) ?_
    refine lv_aload_n hx hb dX0_laid_20 rfl (lv_at hl 0 rfl) ?_
    refine co_geti S hK hH 0 28 128 (by decide) ⟨by decide, rfl, rfl, rfl⟩ (Or.inl q289) hk_a0 dX0_laid_21 ?_
    refine lv_icmp_ge (tgt := 59) hx hb dX0_laid_24 (by decide) (fun c15 => ?_) (fun c15 => ?_)
    · have hw := hw.1 c15
      refine lv_aload_n hx hb dX0_laid_59 rfl (lv_at hl 0 rfl) ?_
      have hk16 := hw.1
      have hw := hw.2
      refine co_getr S hK hH 0 31 131 (by decide) ⟨by decide, rfl, rfl, rfl⟩ (Or.inl q292) hk_a0 (by rw [hk16]; decide) dX0_laid_60 ?_
      exact co_aret S hr hlocks hH hE hS hk16 hw dX0_laid_63
    · have hw := hw.2 c15
      refine lv_aload_n hx hb dX0_laid_27 rfl (lv_at hl 0 rfl) ?_
      have hk17 := hw.1
      have hw := hw.2
      refine co_getr S hK hH 0 27 127 (by decide) ⟨by decide, rfl, rfl, rfl⟩ (Or.inl q288) hk_a0 (by rw [hk17]; decide) dX0_laid_28 ?_
      refine lv_iload_n hx hb dX0_laid_31 rfl (lv_at hl 2 rfl) ?_
      have hin18 := hw.1
      have hw := hw.2
      have hk19 := hw.1
      have hw := hw.2
      refine co_aald S hK hH 8 28 ⟨by decide, rfl, rfl⟩ hk17 hin18 (by rw [hk19]; decide) dX0_laid_32 ?_
      refine co_geti S hK hH 8 1 901 (by decide) ⟨by decide, rfl, rfl, rfl⟩ (Or.inr ⟨_, q216⟩) hk19 dX0_laid_33 ?_
      refine lv_iload_n hx hb dX0_laid_36 rfl (lv_at hl 1 rfl) ?_
      refine lv_icmp_gt (tgt := 53) hx hb dX0_laid_37 (by decide) (fun c20 => ?_) (fun c20 => ?_)
      · have hw := hw.1 c20
        exact r0_laid_53 S hr hlocks hK hA hkb _ _ _ _ hw hE hk_a0 _ _ hH hS _ (lv_sub hl [0, 1, 2] rfl)
      · have hw := hw.2 c20
        refine lv_aload_n hx hb dX0_laid_40 rfl (lv_at hl 0 rfl) ?_
        have hk21 := hw.1
        have hw := hw.2
        refine co_getr S hK hH 0 27 127 (by decide) ⟨by decide, rfl, rfl, rfl⟩ (Or.inl q288) hk_a0 (by rw [hk21]; decide) dX0_laid_41 ?_
        refine lv_iload_n hx hb dX0_laid_44 rfl (lv_at hl 2 rfl) ?_
        have hin22 := hw.1
        have hw := hw.2
        have hk23 := hw.1
        have hw := hw.2
        refine co_aald S hK hH 8 28 ⟨by decide, rfl, rfl⟩ hk21 hin22 (by rw [hk23]; decide) dX0_laid_45 ?_
        refine lv_aload_n hx hb dX0_laid_46 rfl (lv_at hl 0 rfl) ?_
        have hk24 := hw.1
        have hw := hw.2
        refine co_getr S hK hH 0 31 131 (by decide) ⟨by decide, rfl, rfl, rfl⟩ (Or.inl q292) hk_a0 (by rw [hk24]; decide) dX0_laid_47 ?_
        refine co_callv (va_runV (As := [.ref (mP M 131 a0 0)]) (rest := []) S (m8_lays l g AD M (mP M 28 (mP M 127 a0 0) x2.toNatClampNeg) (mP M 131 a0 0) _ hk23 hk24 hw) (cwV 1 hts (lw_V q537 q538 q539 q62 q540) rfl rfl rfl (by decide +kernel) ⟨Nat.le_of_ble_eq_true rfl, Nat.le_of_ble_eq_true rfl⟩) ⟨co_blind, co_recv hK hH (c := 8) (by decide) hk23, co_pre hK hH hA hS⟩ rfl rfl hl.1 rfl (lv_room (Nat.le_of_ble_eq_true rfl)) dX0_laid_50 ⟨Nat.le_refl _, Nat.le_refl _⟩) hS (fun M25 H locs hw hH hE27 hS => ?_)
        have hk29 := hE27.k hk_a0 (by decide)
        have hE := hE.tr hE27
        exact r0_laid_53 S hr hlocks hK hA hkb _ _ _ _ hw hE hk29 _ _ hH hS _ (lv_sub hl [0, 1, 2] rfl)
def w0_laid (post : Nat → Mm → Prop) (M : Mm) (a0 : Nat) (x1 : Int32) : Prop :=
  mK M (mP M 131 a0 0) = 6 ∧ (mK M (mP M 114 a0 0) = 4 ∧ (w3_newest (fun (r4 : Nat) (M3 : Mm) => mK M3 (mP M3 500 r4 0) = 6 ∧ (w5_copies (fun (M10 : Mm) => ∃ n, w0_laid_19 post  n M10 a0 x1 0) M3 (mP M 131 a0 0) (mP M3 500 r4 0))) M (mP M 114 a0 0)))
set_option maxHeartbeats 4000000 in
set_option maxRecDepth 100000 in
theorem m0_laid (l : Launch) (g : CG) (AD : Nat → Prop) (M : Mm) (a0 : Nat) (x1 : Int32) (post : Nat → Mm → Prop) (hk_a0 : mK M a0 = 1) (hw : w0_laid post M a0 x1) : Met l yX0_laid (ws_ yX0_laid cX0_laid 3 (some (.object "FarTypewriter$Screen"))) rm0_laid (CPc g AD M [.ref a0, .int x1]) (CQr g AD M (fun k => k = 6) post) 0 0 AD := by
  refine Met.ofW (cc := cX0_laid) (maxL := 3) (ret := (some (.object "FarTypewriter$Screen"))) (by decide) rfl ?_
  intro p e s m args below meth c s₁ B hml hv
  obtain ⟨rfl, hK, hH, hA⟩ := hv
  have hx := B.exec
  have hb := B.bytes
  have hr : meth.sig.returnType = (some (.object "FarTypewriter$Screen")) := B.returns
  have hts := atoms_spec (ws := ws_ yX0_laid cX0_laid 3 (some (.object "FarTypewriter$Screen"))) B.pre
  have hts : ∀ w ∈ lw_all, w.before _ s = true := fun w h => hts w (List.mem_cons_of_mem _ h)
  have hown : s.vm.findClass RX0 = some m.cls := findClass_of_methodNamed B.named
  have hlocks : meth.locks = false := B.notSynchronized
  have S : CallFix p m c cX0_laid 3 s _ lw_all RX0 := ⟨hx, hb, hml, hown, hts⟩
  have hS : va_S AD s.heap s.heap [] := va_S.rf
  have hE : Ext M M := Ext.rf
  have hl := lv_entry ([.ref a0, .int x1]) (n := 3) (Nat.le_of_ble_eq_true rfl)
  rw [lg_entry_eq]
  generalize (lg_sl ([.ref a0, .int x1]) ++ List.replicate (3 - (lg_sl ([.ref a0, .int x1])).length) Slot.unset).toArray = ls at hl ⊢
  have hl : lv_has ls 3 [(0, .ref a0), (1, .int x1)] := hl
  unfold w0_laid at hw
  refine lv_aload_n hx hb dX0_laid_0 rfl (lv_at hl 0 rfl) ?_
  have hk1 := hw.1
  have hw := hw.2
  refine co_getr S hK hH 0 31 131 (by decide) ⟨by decide, rfl, rfl, rfl⟩ (Or.inl q292) hk_a0 (by rw [hk1]; decide) dX0_laid_1 ?_
  refine lv_aload_n hx hb dX0_laid_4 rfl (lv_at hl 0 rfl) ?_
  have hk2 := hw.1
  have hw := hw.2
  refine co_getr S hK hH 0 14 114 (by decide) ⟨by decide, rfl, rfl, rfl⟩ (Or.inl q275) hk_a0 (by rw [hk2]; decide) dX0_laid_5 ?_
  refine co_callr (va_runV (As := []) (rest := [.ref (mP M 131 a0 0)]) S (m3_newest l g AD M (mP M 114 a0 0) _ hk2 hw) (cwV 0 hts (lw_V q536 q258 q259 q57 q260) rfl rfl rfl (by decide +kernel) ⟨Nat.le_of_ble_eq_true rfl, Nat.le_of_ble_eq_true rfl⟩) ⟨co_blind, co_recv hK hH (c := 3) (by decide) hk2, co_pre hK hH hA hS⟩ rfl rfl hl.1 rfl (lv_room (Nat.le_of_ble_eq_true rfl)) dX0_laid_8 ⟨Nat.le_refl _, Nat.le_refl _⟩) hS (fun r4 M3 H locs hw hH hE5 hk6 hS => ?_)
  have hk7 := hE5.k hk_a0 (by decide)
  have hk8 := hE5.k hk1 (by decide)
  have hE := hE.tr hE5
  have hk6 : mK M3 r4 = 5 := hk6
  have hk9 := hw.1
  have hw := hw.2
  refine co_getr S hK hH 4 0 500 (by decide) ⟨by decide, rfl, rfl, rfl⟩ (Or.inr ⟨_, q172⟩) hk6 (by rw [hk9]; decide) dX0_laid_11 ?_
  refine co_callv (va_runV (As := [.ref (mP M3 500 r4 0)]) (rest := []) S (m5_copies l g AD M3 (mP M 131 a0 0) (mP M3 500 r4 0) _ hk8 hk9 hw) (cwV 1 hts (lw_V q246 q247 q248 q59 q249) rfl rfl rfl (by decide +kernel) ⟨Nat.le_of_ble_eq_true rfl, Nat.le_of_ble_eq_true rfl⟩) ⟨co_blind, co_recv hK hH (c := 5) (by decide) hk8, co_pre hK hH hA hS⟩ rfl rfl hl.1 rfl (lv_room (Nat.le_of_ble_eq_true rfl)) dX0_laid_14 ⟨Nat.le_refl _, Nat.le_refl _⟩) hS (fun M10 H locs hw hH hE12 hS => ?_)
  have hk14 := hE12.k hk7 (by decide)
  have hE := hE.tr hE12
  refine lv_iconst (v := 0) hx hb dX0_laid_17 (by decide) ?_
  refine lv_istore_n (lv' := [(2, .int 0), (0, .ref a0), (1, .int x1)]) hx hb dX0_laid_18 rfl hl (by decide) rfl (fun ls hl => ?_)
  obtain ⟨n, hw⟩ := hw
  refine r0_laid_19 S hr hlocks hK hA  n _ _ _ _ hw hE hk14 _ _ hH hS _ (lv_sub hl [1, 2, 0] rfl)
