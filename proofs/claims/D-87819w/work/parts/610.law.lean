/-! the steps that the pure part owes: each call of the class and the same call of the reference answer alike and keep LI -/
def st0_open (LI : Nat → Mm → VV → AA → Prop) (x : Nat) : Prop := ∀ (n : Nat) (M : Mm) (V : VV) (A : AA) (y1 y2 y3 : Int32), n < 64 → LI n M V A → w0_open (fun (r : Int32) (M1 : Mm) => w9_open (fun (r1 : Int32) (V1 : VV) (A1 : AA) => r = r1 ∧ LI (n + 1) M1 V1 A1) V A y1 y2 y3) M x y1 y2 y3
def st0_program (LI : Nat → Mm → VV → AA → Prop) (x : Nat) : Prop := ∀ (n : Nat) (M : Mm) (V : VV) (A : AA) (y1 : Int32), n < 64 → LI n M V A → w0_program (fun (r : Int32) (M1 : Mm) => w9_program (fun (r1 : Int32) (V1 : VV) (A1 : AA) => r = r1 ∧ LI (n + 1) M1 V1 A1) V A y1) M x y1
def st0_key (LI : Nat → Mm → VV → AA → Prop) (x : Nat) : Prop := ∀ (n : Nat) (M : Mm) (V : VV) (A : AA) (y1 : Int32), n < 64 → LI n M V A → w0_key (fun (r : Int32) (M1 : Mm) => w9_key (fun (r1 : Int32) (V1 : VV) (A1 : AA) => r = r1 ∧ LI (n + 1) M1 V1 A1) V A y1) M x y1
def st0_write (LI : Nat → Mm → VV → AA → Prop) (x : Nat) : Prop := ∀ (n : Nat) (M : Mm) (V : VV) (A : AA) (y1 : Int32), n < 64 → LI n M V A → w0_write (fun (r : Int32) (M1 : Mm) => w9_write (fun (r1 : Int32) (V1 : VV) (A1 : AA) => r = r1 ∧ LI (n + 1) M1 V1 A1) V A y1) M x y1
def st0_move (LI : Nat → Mm → VV → AA → Prop) (x : Nat) : Prop := ∀ (n : Nat) (M : Mm) (V : VV) (A : AA) (y1 y2 : Int32), n < 64 → LI n M V A → w0_move (fun (r : Int32) (M1 : Mm) => w9_move (fun (r1 : Int32) (V1 : VV) (A1 : AA) => r = r1 ∧ LI (n + 1) M1 V1 A1) V A y1 y2) M x y1 y2
def st0_wipe (LI : Nat → Mm → VV → AA → Prop) (x : Nat) : Prop := ∀ (n : Nat) (M : Mm) (V : VV) (A : AA) (y1 : Int32), n < 64 → LI n M V A → w0_wipe (fun (r : Int32) (M1 : Mm) => w9_wipe (fun (r1 : Int32) (V1 : VV) (A1 : AA) => r = r1 ∧ LI (n + 1) M1 V1 A1) V A y1) M x y1
def st0_scroll (LI : Nat → Mm → VV → AA → Prop) (x : Nat) : Prop := ∀ (n : Nat) (M : Mm) (V : VV) (A : AA) (y1 : Int32), n < 64 → LI n M V A → w0_scroll (fun (r : Int32) (M1 : Mm) => w9_scroll (fun (r1 : Int32) (V1 : VV) (A1 : AA) => r = r1 ∧ LI (n + 1) M1 V1 A1) V A y1) M x y1
def st0_pen (LI : Nat → Mm → VV → AA → Prop) (x : Nat) : Prop := ∀ (n : Nat) (M : Mm) (V : VV) (A : AA) (y1 : Int32), n < 64 → LI n M V A → w0_pen (fun (r : Int32) (M1 : Mm) => w9_pen (fun (r1 : Int32) (V1 : VV) (A1 : AA) => r = r1 ∧ LI (n + 1) M1 V1 A1) V A y1) M x y1
def st0_tick (LI : Nat → Mm → VV → AA → Prop) (x : Nat) : Prop := ∀ (n : Nat) (M : Mm) (V : VV) (A : AA), n < 64 → LI n M V A → w0_tick (fun (r : Int32) (M1 : Mm) => w9_tick (fun (r1 : Int32) (V1 : VV) (A1 : AA) => r = r1 ∧ LI (n + 1) M1 V1 A1) V A ) M x 
def st0_round (LI : Nat → Mm → VV → AA → Prop) (x : Nat) : Prop := ∀ (n : Nat) (M : Mm) (V : VV) (A : AA), n < 64 → LI n M V A → w0_round (fun (r : Int32) (M1 : Mm) => w9_round (fun (r1 : Int32) (V1 : VV) (A1 : AA) => r = r1 ∧ LI (n + 1) M1 V1 A1) V A ) M x 
def st0_carry (LI : Nat → Mm → VV → AA → Prop) (x : Nat) : Prop := ∀ (n : Nat) (M : Mm) (V : VV) (A : AA) (y1 y2 y3 y4 : Int32), n < 64 → LI n M V A → w0_carry (fun (r : Int32) (M1 : Mm) => w9_carry (fun (r1 : Int32) (V1 : VV) (A1 : AA) => r = r1 ∧ LI (n + 1) M1 V1 A1) V A y1 y2 y3 y4) M x y1 y2 y3 y4
def st0_roam (LI : Nat → Mm → VV → AA → Prop) (x : Nat) : Prop := ∀ (n : Nat) (M : Mm) (V : VV) (A : AA), n < 64 → LI n M V A → w0_roam (fun (r : Int32) (M1 : Mm) => w9_roam (fun (r1 : Int32) (V1 : VV) (A1 : AA) => r = r1 ∧ LI (n + 1) M1 V1 A1) V A ) M x 
def st0_cell (LI : Nat → Mm → VV → AA → Prop) (x : Nat) : Prop := ∀ (n : Nat) (M : Mm) (V : VV) (A : AA) (y1 y2 y3 y4 : Int32), n < 64 → LI n M V A → w0_cell (fun (r : Int32) (M1 : Mm) => w9_cell (fun (r1 : Int32) (V1 : VV) (A1 : AA) => r = r1 ∧ LI (n + 1) M1 V1 A1) V A y1 y2 y3 y4) M x y1 y2 y3 y4
def st0_cursor (LI : Nat → Mm → VV → AA → Prop) (x : Nat) : Prop := ∀ (n : Nat) (M : Mm) (V : VV) (A : AA) (y1 y2 : Int32), n < 64 → LI n M V A → w0_cursor (fun (r : Int32) (M1 : Mm) => w9_cursor (fun (r1 : Int32) (V1 : VV) (A1 : AA) => r = r1 ∧ LI (n + 1) M1 V1 A1) V A y1 y2) M x y1 y2
def st0_alike (LI : Nat → Mm → VV → AA → Prop) (x : Nat) : Prop := ∀ (n : Nat) (M : Mm) (V : VV) (A : AA), n < 64 → LI n M V A → w0_alike (fun (r : Int32) (M1 : Mm) => w9_alike (fun (r1 : Int32) (V1 : VV) (A1 : AA) => r = r1 ∧ LI (n + 1) M1 V1 A1) V A ) M x 
def st0_state (LI : Nat → Mm → VV → AA → Prop) (x : Nat) : Prop := ∀ (n : Nat) (M : Mm) (V : VV) (A : AA) (y1 y2 : Int32), n < 64 → LI n M V A → w0_state (fun (r : Int32) (M1 : Mm) => w9_state (fun (r1 : Int32) (V1 : VV) (A1 : AA) => r = r1 ∧ LI (n + 1) M1 V1 A1) V A y1 y2) M x y1 y2
def st0_kept (LI : Nat → Mm → VV → AA → Prop) (x : Nat) : Prop := ∀ (n : Nat) (M : Mm) (V : VV) (A : AA) (y1 y2 : Int32), n < 64 → LI n M V A → w0_kept (fun (r : Int32) (M1 : Mm) => w9_kept (fun (r1 : Int32) (V1 : VV) (A1 : AA) => r = r1 ∧ LI (n + 1) M1 V1 A1) V A y1 y2) M x y1 y2
def st0_guess_2 (LI : Nat → Mm → VV → AA → Prop) (x : Nat) : Prop := ∀ (n : Nat) (M : Mm) (V : VV) (A : AA) (y1 y2 : Int32), n < 64 → LI n M V A → w0_guess_2 (fun (r : Int32) (M1 : Mm) => w9_guess_2 (fun (r1 : Int32) (V1 : VV) (A1 : AA) => r = r1 ∧ LI (n + 1) M1 V1 A1) V A y1 y2) M x y1 y2
def st0_letter (LI : Nat → Mm → VV → AA → Prop) (x : Nat) : Prop := ∀ (n : Nat) (M : Mm) (V : VV) (A : AA) (y1 y2 y3 : Int32), n < 64 → LI n M V A → w0_letter (fun (r : Int32) (M1 : Mm) => w9_letter (fun (r1 : Int32) (V1 : VV) (A1 : AA) => r = r1 ∧ LI (n + 1) M1 V1 A1) V A y1 y2 y3) M x y1 y2 y3
def st0_count (LI : Nat → Mm → VV → AA → Prop) (x : Nat) : Prop := ∀ (n : Nat) (M : Mm) (V : VV) (A : AA) (y1 : Int32), n < 64 → LI n M V A → w0_count (fun (r : Int32) (M1 : Mm) => w9_count (fun (r1 : Int32) (V1 : VV) (A1 : AA) => r = r1 ∧ LI (n + 1) M1 V1 A1) V A y1) M x y1
def LwS (LI : Nat → Mm → VV → AA → Prop) (x : Nat) : Prop := (∀ (n : Nat) (M : Mm) (V : VV) (A : AA), LI n M V A → mK M x = 1) ∧ (∀ (n k : Nat) (M : Mm) (V : VV) (A : AA), LI n M V A → LI n (sZ M k) V A) ∧ (∀ (n : Nat) (M : Mm) (V : VV) (A : AA), LI n M V A → LI (n + 1) M V A) ∧ st0_open LI x ∧ st0_program LI x ∧ st0_key LI x ∧ st0_write LI x ∧ st0_move LI x ∧ st0_wipe LI x ∧ st0_scroll LI x ∧ st0_pen LI x ∧ st0_tick LI x ∧ st0_round LI x ∧ st0_carry LI x ∧ st0_roam LI x ∧ st0_cell LI x ∧ st0_cursor LI x ∧ st0_alike LI x ∧ st0_state LI x ∧ st0_kept LI x ∧ st0_guess_2 LI x ∧ st0_letter LI x ∧ st0_count LI x
/-! rows for the law's calls: the class's cells and the reference's are apart -/
def R_law : String := "FarTypewriterLaw"
def lw_P (b : Addr) (xs : List Int32) (args : Array Value) (s : State) : Prop := args = #[.ref b] ∧ s.IntsAt b xs ∧ xs.length ≤ 320 ∧ (Jvm.Cond.and given_1 narrow_1).before args s = true
def lw_Q (_ : Array Value) (s : State) (o : Outcome) (t : State) : Prop := o = .returned (some (.int 1)) ∧ Framed s o t [] 603072 7202922
def lw_Z (below : List Frame) (a : Array Value) (s : State) : State → Prop := fun t => ∃ o, t.status = .running ∧ Ended t below o ∧ lw_Q a s o t
/-- the law's own end, with 1 on the stack, nothing written that was there before, its room as the claim has it -/
theorem lw_ret {p : Program} {l : Launch} {e : Env} {s : State} {m : MethodId} {below : List Frame} {meth : Method} {c : Code} {b : Nat} (hx : p.tables.exec = Jvm.exec) (hb : c.code = code) (hr : meth.sig.returnType = ret) (hlocks : meth.locks = false) {pc : Nat} {H : Heap} {ls : Array Slot} (hdg : decode code pc = .ok (.ireturn, 1)) : W p l e room_1 s m #[Value.ref b] below meth c H [] 603072 7202922 (lw_Z below #[Value.ref b] s) (F0 m pc ls [.int 1]) := by
  intro T hT X
  obtain ⟨fs, hret, hrun, hended, hW, hframe⟩ := X.leave (v := some (.int 1)) (hlocks := hlocks) (fun h => by rw [hr] at h; cases h)
  have hmeth' : T.vm.method? m = some meth := X.method'
  refine ⟨T.setFrames fs, ?_, .returned (some (.int 1)), hrun, hended, rfl, ⟨_, rfl⟩, hW, hframe⟩
  jvm_step X.here [X.here.top, hx, hb, hdg, hmeth', hr, ret, narrow_b1]
  (try refine ⟨rfl, ?_⟩); (try refine ⟨rfl, ?_⟩)
  first | (intro acts; rw [hret _ acts rfl rfl rfl]) | rw [hret _ _ rfl rfl rfl]
  exact Steps.refl _
def lAL (s : State) : Nat → Prop := fun q => s.heap.size ≤ q
def lAD (s : State) (gm : MG) : Nat → Prop := fun q => s.heap.size ≤ q ∧ ¬ HA gm q
/-- what stays all through the law -/
def lawF (s : State) (g : CG) (gm : MG) (b L x : Nat) (xs : Nat → Int32) (LI : Nat → Mm → VV → AA → Prop) (meth : Method) : Prop :=
  KC g s ∧ KM gm s ∧ ((∀ q, HA gm q → s.heap.size ≤ q) ∧ HI gm) ∧ (va_X b L xs s s.heap ∧ b < s.heap.size) ∧ True ∧ LwS LI x ∧ meth.sig.returnType = ret ∧ meth.locks = false
theorem lAL_b {s : State} {g : CG} {gm : MG} {b L x : Nat} {xs : Nat → Int32} {LI : Nat → Mm → VV → AA → Prop} {meth : Method} (F : lawF s g gm b L x xs LI meth) : ¬ lAL s b := by
  have := F.2.2.2.1.2
  unfold lAL
  omega
theorem lw_vp0' {i L : Nat} (hi : 5 * i + 5 ≤ L) (hL : L ≤ 320) : vp_in (nI (5 * i)) L := vp_in_nI (by omega) (by omega)
theorem lw_vp1 {i L : Nat} (hi : 5 * i + 5 ≤ L) (hL : L ≤ 320) : vp_in (nI (5 * i) + 1) L := by
  rw [show nI (5 * i) + 1 = nI (5 * i + 1) from nI_add (5 * i) 1]; exact vp_in_nI (by omega) (by omega)
theorem lw_vp2 {i L : Nat} (hi : 5 * i + 5 ≤ L) (hL : L ≤ 320) : vp_in (nI (5 * i) + 2) L := by
  rw [show nI (5 * i) + 2 = nI (5 * i + 2) from nI_add (5 * i) 2]; exact vp_in_nI (by omega) (by omega)
theorem lw_vp3 {i L : Nat} (hi : 5 * i + 5 ≤ L) (hL : L ≤ 320) : vp_in (nI (5 * i) + 3) L := by
  rw [show nI (5 * i) + 3 = nI (5 * i + 3) from nI_add (5 * i) 3]; exact vp_in_nI (by omega) (by omega)
theorem lw_vp4 {i L : Nat} (hi : 5 * i + 5 ≤ L) (hL : L ≤ 320) : vp_in (nI (5 * i) + 4) L := by
  rw [show nI (5 * i) + 4 = nI (5 * i + 4) from nI_add (5 * i) 4]; exact vp_in_nI (by omega) (by omega)
theorem lw_i5 (i : Nat) : nI (5 * i) + Int32.ofInt 5 = nI (5 * (i + 1)) := by
  rw [show Int32.ofInt 5 = nI 5 from rfl, nI_add]
  congr 1
theorem lw_lt {i L : Nat} (hL : L ≤ 320) (hi : 5 * i ≤ 320) (h : ¬ Int32.ofNat L - 5 < nI (5 * i)) : 5 * i + 5 ≤ L := by
  rw [Int32.lt_iff_toInt_lt, show Int32.ofNat L - 5 = nI L - nI 5 from rfl, pk_sub_toInt (by omega) (by omega), nI_toInt (by omega)] at h
  omega
section LXR
variable {p : Program} {l : Launch} {e : Env} {s : State} {m : MethodId} {below : List Frame} {meth : Method} {c : Code} {g : CG} {gm : MG} {b L x : Nat} {xs : Nat → Int32} {LI : Nat → Mm → VV → AA → Prop} {M : Mm} {V : VV} {A : AA} {H : Heap} {locs : List Loc} {cells slots : Nat} {Q : State → Prop} {pc : Nat} {ls : Array Slot} {rest st0 As : List Value} {y : MethodName} {bytes : ByteArray} {maxL n index mc ms : Nat} {rm : Room} {ty : FieldType}
theorem lx_lt (hM : HM gm V A H) : ∀ q, HA gm q → q < H.size := by
  intro q hq
  rcases hq with rfl | ⟨k, hk, rfl⟩
  · obtain ⟨cell, h1, -⟩ := hM.1
    exact (Array.getElem?_eq_some_iff.mp h1).1
  · exact (Array.getElem?_eq_some_iff.mp (hM.2 k hk)).1
theorem lx_new (F : lawF s g gm b L x xs LI meth) (hM : HM gm V A H) (hS : va_S (lAL s) s.heap H locs) : ∀ q, H.size ≤ q → lAD s gm q := fun q hq => ⟨Nat.le_trans hS.1 hq, fun h => by have := lx_lt hM q h; omega⟩
theorem lx_run {av : List Value} {post : Int32 → Mm → Prop} (F : lawF s g gm b L x xs LI meth) (hM : HM gm V A H) (hS : va_S (lAL s) s.heap H locs)
    (hr : va_Run p l e room_1 s m #[Value.ref b] below meth c H locs cells slots mc ms (F0 m pc ls st0) rest (CQi g (lAD s gm) M post av.toArray) (lAD s gm))
    (kk : ∀ (r : Int32) (M' : Mm) (H' : Heap) (locs' : List Loc), post r M' → HC g (lAD s gm) M' H' → HM gm V A H' → va_S (lAL s) s.heap H' locs' → W p l e room_1 s m #[Value.ref b] below meth c H' locs' (cells + mc) (slots + ms) Q (F0 m (pc + 3) ls (.int r :: rest))) : W p l e room_1 s m #[Value.ref b] below meth c H locs cells slots Q (F0 m pc ls st0) :=
  va_calli hr hS (fun _ _ h => h.1) (fun _ h => h.1) (fun r u t H1 locs1 ht hvm hp hB hz hk1 hS => kk r u H1 locs1 hp (by rw [← ht]; exact hB.1) (hM.kept (fun q hq => hk1 q (lx_lt hM q hq) (fun h => h.2 hq))) hS)
theorem lx_pre (F : lawF s g gm b L x xs LI meth) (hH : HC g (lAD s gm) M H) (hM : HM gm V A H) (hS : va_S (lAL s) s.heap H locs) {av : List Value} : ∀ U : State, U.heap = H → s.WarmedH U.vm → CPc g (lAD s gm) M av av.toArray U := fun U hU hW => ⟨rfl, F.1.warm hW, by rw [hU]; exact hH, fun q hq => lx_new F hM hS q (by rw [hU] at hq; exact hq)⟩
theorem lx_calli {post : Int32 → Mm → Prop} (S : CallFix p m c cL_law 4 s #[Value.ref b] lw_all R_law) (F : lawF s g gm b L x xs LI meth) (hH : HC g (lAD s gm) M H) (hM : HM gm V A H) (hS : va_S (lAL s) s.heap H locs)
    (met : Met l y (ws_ y bytes maxL (some ty)) rm (CPc g (lAD s gm) M (.ref x :: As)) (CQi g (lAD s gm) M post) mc ms (lAD s gm)) (cw : CallW room_1 s #[Value.ref b] R_law RX0 index y bytes maxL (some ty) (ws_ y bytes maxL (some ty)) rm mc ms n) (hkx : mK M x = 1)
    (hn : As.length = n) (hsz : ls.size = 4) (hst : st0 = As.reverse ++ .ref x :: rest) (hW : 2 * (F0 m pc ls st0).monitorRoom + (rest.map fun v => v.category).sum ≤ 8) (hdg : decode cL_law pc = .ok (.invokevirtual index, 3)) (hf : cells + mc ≤ room_1.cells ∧ slots + ms ≤ room_1.slots)
    (kk : ∀ (r : Int32) (M' : Mm) (H' : Heap) (locs' : List Loc), post r M' → HC g (lAD s gm) M' H' → HM gm V A H' → va_S (lAL s) s.heap H' locs' → W p l e room_1 s m #[Value.ref b] below meth c H' locs' (cells + mc) (slots + ms) Q (F0 m (pc + 3) ls (.int r :: rest))) : W p l e room_1 s m #[Value.ref b] below meth c H locs cells slots Q (F0 m pc ls st0) :=
  lx_run F hM hS (va_runV (rest := rest) S met cw ⟨co_blind, co_recv F.1 hH (c := 0) (by decide) hkx, lx_pre F hH hM hS⟩ rfl hn hsz hst hW hdg hf) kk
theorem ly_calli {post : Int32 → VV → AA → Prop} (S : CallFix p m c cL_law 4 s #[Value.ref b] lw_all R_law) (F : lawF s g gm b L x xs LI meth) (hH : HC g (lAD s gm) M H) (hM : HM gm V A H) (hS : va_S (lAL s) s.heap H locs)
    (met : Met l y (ws_ y bytes maxL (some ty)) rm (MPc gm V A (.ref (mh gm) :: As)) (MQi gm post) 0 0 (HA gm)) (cw : CallW room_1 s #[Value.ref b] R_law RX9 index y bytes maxL (some ty) (ws_ y bytes maxL (some ty)) rm 0 0 n)
    (hn : As.length = n) (hsz : ls.size = 4) (hst : st0 = As.reverse ++ .ref (mh gm) :: rest) (hW : 2 * (F0 m pc ls st0).monitorRoom + (rest.map fun v => v.category).sum ≤ 8) (hdg : decode cL_law pc = .ok (.invokevirtual index, 3)) (hf : cells ≤ room_1.cells ∧ slots ≤ room_1.slots)
    (kk : ∀ (r : Int32) (V' : VV) (A' : AA) (H' : Heap) (locs' : List Loc) (kz : Nat), post r V' A' → HC g (lAD s gm) (sZ M kz) H' → HM gm V' A' H' → va_S (lAL s) s.heap H' locs' → W p l e room_1 s m #[Value.ref b] below meth c H' locs' cells slots Q (F0 m (pc + 3) ls (.int r :: rest))) : W p l e room_1 s m #[Value.ref b] below meth c H locs cells slots Q (F0 m pc ls st0) := by
  refine va_calli (A1 := HA gm) (va_runV (rest := rest) S met cw ⟨mo_blind, mo_recv F.2.1 hM, fun U hU hW => ⟨rfl, F.2.1.moved hW.alike, by rw [hU]; exact hM⟩⟩ rfl hn hsz hst hW hdg hf) hS (fun q _ h => F.2.2.1.1 q h) (fun q h => F.2.2.1.1 q h) (fun r u t H1 locs1 ht hvm hp hB hz hk hS => ?_)
  refine kk r u.1 u.2 H1 locs1 (H1.size - H.size) hp (hH.more _ (by omega) (fun q hq => ?_) (fun q hq => (hH.2.2 q hq).1)) (by rw [← ht]; exact hB) hS
  exact hk q (by have := hH.lt hq; rw [hH.1]; exact this) (fun h => (hH.2.2 q hq).1.2 h)
/-- what a call of a method with handlers asks -/
abbrev CallWW (R : Room) (s : State) (args : Array Value) (own C : String) (index : Nat) (y : MethodName) (bytes : ByteArray) (maxL : Nat) (ret : Option FieldType) (hh : List (Nat × Nat × Nat × Nat)) (ws : List Cond) (rm : Room) (mc ms n : Nat) : Prop :=
  (rm.cells = mc ∧ rm.slots = ms ∧ rm.frames + 1 ≤ R.frames ∧ 8 + (maxL + 11) + rm.locals ≤ R.locals ∧ (∀ w ∈ ws, ∀ (a' : Array Value) (U : State), s.WarmedH U.vm → w.before a' U = true) ∧ Cond.codeWith y bytes maxL ret hh ∈ ws) ∧
  (Cond.codeWith y bytes maxL ret hh).before args s = true ∧ (Cond.initialized y.cls).before args s = true ∧ (y.cls ≠ "java/lang/invoke/MethodHandle" ∧ y.cls ≠ "java/lang/invoke/VarHandle") ∧ (∀ sig, parseMethodDescriptor y.desc = some sig → n = sig.parameters.length) ∧ (Cond.methodLink own index y).before args s = true ∧ (Cond.instanceMethod y).before args s = true ∧ (Cond.selects C y y).before args s = true
theorem lx_cwVW {R : Room} {s : State} {args : Array Value} {own C : String} {index maxL mc ms : Nat} {y : MethodName} {bytes : ByteArray} {ret : Option FieldType} {hh : List (Nat × Nat × Nat × Nat)} {Ts ws ws' : List Cond} {rm : Room} (n : Nat) (ht : ∀ w ∈ Ts, w.before args s = true) (hT : GoodIn Ts (wsV own index C y ws)) (hw : ws = Cond.codeWith y bytes maxL ret hh :: ws') (hrc : rm.cells = mc) (hrs : rm.slots = ms)
    (hd : y.cls = C ∧ y.cls ≠ "java/lang/invoke/MethodHandle" ∧ y.cls ≠ "java/lang/invoke/VarHandle" ∧ (parseMethodDescriptor y.desc).map (fun d => d.parameters.length) = some n) (hR : rm.frames + 1 ≤ R.frames ∧ 8 + (maxL + 11) + rm.locals ≤ R.locals) : CallWW R s args own C index y bytes maxL ret hh ws rm mc ms n := by
  obtain ⟨hC, hd⟩ := hd
  subst hC
  have ok : ∀ w ∈ wsV own index y.cls y ws, w.before args s = true := fun w h => ht w (hT w h).1
  have hG : GoodIn Ts ws := fun w h => hT w (by unfold wsV; exact List.mem_append_right _ h)
  have hc : Cond.codeWith y bytes maxL ret hh ∈ ws := by rw [hw]; exact List.mem_cons_self
  refine ⟨⟨hrc, hrs, hR.1, hR.2, pay_in ht hG, hc⟩, ht _ (hG _ hc).1, ok _ (by simp [wsV]), ⟨hd.1, hd.2.1⟩, fun sig h => ?_, ok _ (by simp [wsV]), ok _ (by simp [wsV]), ok _ (by simp [wsV])⟩
  have h2 := hd.2.2
  rw [h] at h2
  exact (Option.some.inj h2).symm
theorem lx_runVW {R : Room} {args : Array Value} {cc : ByteArray} {nL : Nat} {ret : Option FieldType} {hh : List (Nat × Nat × Nat × Nat)} {ws Ts : List Cond} {Pc : Array Value → State → Prop} {Qc : Array Value → State → Outcome → State → Prop} {free : Addr → Prop} {own C : String} {b : Addr} {f : JFrame}
    (S : CallFix p m c cc nL s args Ts own) (hM : Met l y ws rm Pc Qc mc ms free) (cw : CallWW R s args own C index y bytes maxL ret hh ws rm mc ms n) (hp : PreV s H C b Pc As)
    (hg : f.method = m) (hn : As.length = n) (hsize : f.locals.size = nL) (hstack : f.stack = As.reverse ++ .ref b :: rest) (hW : 2 * f.monitorRoom + (rest.map fun v => v.category).sum ≤ 8) (hdg : decode cc f.pc = .ok (.invokevirtual index, 3)) (hf : cells + mc ≤ R.cells ∧ slots + ms ≤ R.slots) :
    va_Run p l e R s m args below meth c H locs cells slots mc ms f rest (Qc (Value.ref b :: As).toArray) free := by
  obtain ⟨⟨hrc, hrs, hfr, hlo, hws, hcw⟩, hcode, hini, hy, hlen, hl, hin, hse⟩ := cw
  have hK : Back l R p e below s args y 3 8 (PreOf R mc ms Pc) (PostOf Qc mc ms free) := va_backW (hh := hh) (bytes := bytes) (maxL := maxL) (ret := ret) hM hp.1 hrc hrs hfr hlo hws hcw (fun a' U hW => word_at hW (Or.inl (by first | rfl | simp [Cond.onTables, Cond.keeps, Cond.steady])) hini)
  obtain ⟨hx, hb, hml, ho, -⟩ := S
  obtain ⟨-, ⟨cellB, hcB, hoB, hclB⟩, hPc⟩ := hp
  intro T hT X
  obtain ⟨mk, methM, hnamed, hmethM, hstM, habM⟩ := Cond.instanceMethod_spec hin
  obtain ⟨mk', methM', cM, hnamed', hmethM', -, -, -, -, -, -, hsigM⟩ := Cond.codeWith_spec hcode
  cases hnamed.symm.trans hnamed'
  cases hmethM.symm.trans hmethM'
  obtain ⟨c2, r2, m2, q1, q2, q3, q4, kP, hkP, hkPi⟩ := Cond.selects_spec hse
  cases hclB.symm.trans q1
  cases (State.methodFound?_of_named hnamed hy).symm.trans q2
  cases hnamed.symm.trans q3
  have hselP : selectMethod e.platform s.vm cellB.cls mk = .method mk := by rw [Launch.admits_selectMethod X.admits]; exact q4
  obtain ⟨vm₁, X₁, hstep₁⟩ := X.invokevirtual hx ho hl hnamed hmethM hstM hkP hkPi hy (a := b) (cell := cellB) (by rw [hT]; exact hcB)
    (fun z h => by rw [h] at hoB; cases hoB) hselP hmethM habM hkP hkPi (g := f) hg (argsL := As) (rest := rest) (hn.trans (hlen _ hsigM)) hstack (by rw [hb]; exact hdg)
  obtain ⟨v, ⟨U', l2, c2, s2⟩, X', ⟨g', mk2, t, L, e1, e2, hq, h1, hL, h2, h3⟩, hsteps⟩ := hK m meth c ⟨T.setVm vm₁, locs, cells, slots⟩ { f with stack := rest } (.invokevirtual index) mk (Value.ref b :: As).toArray X₁ hg (hsize.trans hml.symm) (by rw [hb]; exact hdg) hW (X₁.named hnamed) ⟨hf.1, hf.2, hPc (T.setVm vm₁) hT X₁.warmed⟩
  dsimp only [Pt.U, Pt.locs, Pt.cells, Pt.slots] at X' e1 e2 h1 h2 h3 hsteps
  subst h1; subst h2; subst h3
  exact ⟨v, (T.setVm vm₁).calling g' mk2 (Value.ref b :: As).toArray, t, U', L, hT, X', hL, e1, e2, hq, fun target h => hstep₁ _ fun acts => by rw [doInvoke_state]; exact hsteps.trans h⟩
theorem lx_calliW {hh : List (Nat × Nat × Nat × Nat)} {post : Int32 → Mm → Prop} (S : CallFix p m c cL_law 4 s #[Value.ref b] lw_all R_law) (F : lawF s g gm b L x xs LI meth) (hH : HC g (lAD s gm) M H) (hM : HM gm V A H) (hS : va_S (lAL s) s.heap H locs)
    (met : Met l y (wsW_ y bytes maxL (some ty) hh) rm (CPc g (lAD s gm) M (.ref x :: As)) (CQi g (lAD s gm) M post) mc ms (lAD s gm)) (cw : CallWW room_1 s #[Value.ref b] R_law RX0 index y bytes maxL (some ty) hh (wsW_ y bytes maxL (some ty) hh) rm mc ms n) (hkx : mK M x = 1)
    (hn : As.length = n) (hsz : ls.size = 4) (hst : st0 = As.reverse ++ .ref x :: rest) (hW : 2 * (F0 m pc ls st0).monitorRoom + (rest.map fun v => v.category).sum ≤ 8) (hdg : decode cL_law pc = .ok (.invokevirtual index, 3)) (hf : cells + mc ≤ room_1.cells ∧ slots + ms ≤ room_1.slots)
    (kk : ∀ (r : Int32) (M' : Mm) (H' : Heap) (locs' : List Loc), post r M' → HC g (lAD s gm) M' H' → HM gm V A H' → va_S (lAL s) s.heap H' locs' → W p l e room_1 s m #[Value.ref b] below meth c H' locs' (cells + mc) (slots + ms) Q (F0 m (pc + 3) ls (.int r :: rest))) : W p l e room_1 s m #[Value.ref b] below meth c H locs cells slots Q (F0 m pc ls st0) :=
  lx_run F hM hS (lx_runVW (rest := rest) S met cw ⟨co_blind, co_recv F.1 hH (c := 0) (by decide) hkx, lx_pre F hH hM hS⟩ rfl hn hsz hst hW hdg hf) kk
end LXR

set_option maxHeartbeats 4000000 in
set_option maxRecDepth 100000 in
theorem lc_open {p : Program} {l : Launch} {e : Env} {s : State} {m : MethodId} {below : List Frame} {meth : Method} {c : Code} {g : CG} {gm : MG} {b L x : Nat} {xs : Nat → Int32} {LI : Nat → Mm → VV → AA → Prop} (S : CallFix p m c cL_law 4 s #[Value.ref b] lw_all R_law) (F : lawF s g gm b L x xs LI meth) (hl0 : l.stackTraces = false) (hL : L ≤ 320) (i cl sl : Nat) (hi : 5 * i + 5 ≤ L) (hi64 : i < 64) (hcl : cl + 20 ≤ 603072) (hsl : sl + 405 ≤ 7202922) (hk : ∀ (M : Mm) (V : VV) (A : AA) (H : Heap) (locs : List Loc) (ls : Array Slot), LI (i + 1) M V A → HC g (lAD s gm) M H → HM gm V A H → va_S (lAL s) s.heap H locs → lv_has ls 4 [(0, .ref b), (1, .ref x), (2, .ref (mh gm)), (3, .int (nI (5 * i)))] → W p l e room_1 s m #[Value.ref b] below meth c H locs (cl + 20) (sl + 405) (lw_Z below #[Value.ref b] s) (F0 m 698 ls [])) : ∀ (M : Mm) (V : VV) (A : AA) (H : Heap) (locs : List Loc) (ls : Array Slot), LI (i) M V A → HC g (lAD s gm) M H → HM gm V A H → va_S (lAL s) s.heap H locs → lv_has ls 4 [(0, .ref b), (1, .ref x), (2, .ref (mh gm)), (3, .int (nI (5 * i)))] → W p l e room_1 s m #[Value.ref b] below meth c H locs (cl) (sl) (lw_Z below #[Value.ref b] s) (F0 m 128 ls []) := by
  have hx := S.1
  have hb := S.2.1
  have hown := S.2.2.2.1
  have hts := S.2.2.2.2
  intro M V A H locs ls hLI hH hM hS hl
  have hkx : mK M x = 1 := F.2.2.2.2.2.1.1 _ _ _ _ hLI
  refine lv_aload_n hx hb dL_law_128 rfl (lv_at hl 1 rfl) ?_
  refine lv_aload_n hx hb dL_law_129 rfl (lv_at hl 0 rfl) ?_
  refine lv_iload_n hx hb dL_law_130 rfl (lv_at hl 3 rfl) ?_
  refine lv_iconst (v := 1) hx hb dL_law_131 (by decide) ?_
  refine lv_iadd hx hb dL_law_132 ?_
  refine va_sld hx hb F.2.2.2.1.1 F.2.2.2.1.2 (lAL_b F) hS (lw_vp1 hi hL) dL_law_133 ?_
  refine lv_aload_n hx hb dL_law_134 rfl (lv_at hl 0 rfl) ?_
  refine lv_iload_n hx hb dL_law_135 rfl (lv_at hl 3 rfl) ?_
  refine lv_iconst (v := 2) hx hb dL_law_136 (by decide) ?_
  refine lv_iadd hx hb dL_law_137 ?_
  refine va_sld hx hb F.2.2.2.1.1 F.2.2.2.1.2 (lAL_b F) hS (lw_vp2 hi hL) dL_law_138 ?_
  refine lv_aload_n hx hb dL_law_139 rfl (lv_at hl 0 rfl) ?_
  refine lv_iload_n hx hb dL_law_140 rfl (lv_at hl 3 rfl) ?_
  refine lv_iconst (v := 3) hx hb dL_law_141 (by decide) ?_
  refine lv_iadd hx hb dL_law_142 ?_
  refine va_sld hx hb F.2.2.2.1.1 F.2.2.2.1.2 (lAL_b F) hS (lw_vp3 hi hL) dL_law_143 ?_
  have hw := F.2.2.2.2.2.1.2.2.2.1 _ M V A (xs (nI (5 * i) + 1).toNatClampNeg) (xs (nI (5 * i) + 2).toNatClampNeg) (xs (nI (5 * i) + 3).toNatClampNeg) hi64 hLI
  refine lx_calli (As := [.int (xs (nI (5 * i) + 1).toNatClampNeg), .int (xs (nI (5 * i) + 2).toNatClampNeg), .int (xs (nI (5 * i) + 3).toNatClampNeg)]) (mc := 20) (ms := 405) S F hH hM hS (m0_open l g (lAD s gm) M x (xs (nI (5 * i) + 1).toNatClampNeg) (xs (nI (5 * i) + 2).toNatClampNeg) (xs (nI (5 * i) + 3).toNatClampNeg) _ hkx hw) (cwV 3 hts (lw_V q361 q362 q363 q54 q364) rfl rfl rfl (by decide +kernel) ⟨Nat.le_of_ble_eq_true rfl, Nat.le_of_ble_eq_true rfl⟩) hkx rfl hl.1 rfl (lv_room (Nat.le_of_ble_eq_true rfl)) dL_law_144 ⟨by show _ ≤ 603072; omega, by show _ ≤ 7202922; omega⟩ (fun r1 M1 H locs hw hH hM hS => ?_)
  refine lv_aload_n hx hb dL_law_147 rfl (lv_at hl 2 rfl) ?_
  refine lv_aload_n hx hb dL_law_148 rfl (lv_at hl 0 rfl) ?_
  refine lv_iload_n hx hb dL_law_149 rfl (lv_at hl 3 rfl) ?_
  refine lv_iconst (v := 1) hx hb dL_law_150 (by decide) ?_
  refine lv_iadd hx hb dL_law_151 ?_
  refine va_sld hx hb F.2.2.2.1.1 F.2.2.2.1.2 (lAL_b F) hS (lw_vp1 hi hL) dL_law_152 ?_
  refine lv_aload_n hx hb dL_law_153 rfl (lv_at hl 0 rfl) ?_
  refine lv_iload_n hx hb dL_law_154 rfl (lv_at hl 3 rfl) ?_
  refine lv_iconst (v := 2) hx hb dL_law_155 (by decide) ?_
  refine lv_iadd hx hb dL_law_156 ?_
  refine va_sld hx hb F.2.2.2.1.1 F.2.2.2.1.2 (lAL_b F) hS (lw_vp2 hi hL) dL_law_157 ?_
  refine lv_aload_n hx hb dL_law_158 rfl (lv_at hl 0 rfl) ?_
  refine lv_iload_n hx hb dL_law_159 rfl (lv_at hl 3 rfl) ?_
  refine lv_iconst (v := 3) hx hb dL_law_160 (by decide) ?_
  refine lv_iadd hx hb dL_law_161 ?_
  refine va_sld hx hb F.2.2.2.1.1 F.2.2.2.1.2 (lAL_b F) hS (lw_vp3 hi hL) dL_law_162 ?_
  refine ly_calli (As := [.int (xs (nI (5 * i) + 1).toNatClampNeg), .int (xs (nI (5 * i) + 2).toNatClampNeg), .int (xs (nI (5 * i) + 3).toNatClampNeg)]) S F hH hM hS (m9_open l gm V A (xs (nI (5 * i) + 1).toNatClampNeg) (xs (nI (5 * i) + 2).toNatClampNeg) (xs (nI (5 * i) + 3).toNatClampNeg) _ F.2.2.1.2 hw) (cwV 3 hts (lw_V q918 q919 q920 q64 q921) rfl rfl rfl (by decide +kernel) ⟨Nat.le_of_ble_eq_true rfl, Nat.le_of_ble_eq_true rfl⟩) rfl hl.1 rfl (lv_room (Nat.le_of_ble_eq_true rfl)) dL_law_163 ⟨by show _ ≤ 603072; omega, by show _ ≤ 7202922; omega⟩ (fun r2 V1 A1 H locs kz hw hH hM hS => ?_)
  refine lv_icmp_eq (tgt := 698) hx hb dL_law_166 (by decide) (fun _ => ?_) (fun cf => absurd hw.1 cf)
  refine W.widen (k := cl + 20) (n := sl + 405) (by omega) (by omega) ?_
  exact hk _ _ _ _ _ _ (F.2.2.2.2.2.1.2.1 _ kz _ _ _ hw.2) hH hM hS hl
set_option maxHeartbeats 4000000 in
set_option maxRecDepth 100000 in
theorem lc_program {p : Program} {l : Launch} {e : Env} {s : State} {m : MethodId} {below : List Frame} {meth : Method} {c : Code} {g : CG} {gm : MG} {b L x : Nat} {xs : Nat → Int32} {LI : Nat → Mm → VV → AA → Prop} (S : CallFix p m c cL_law 4 s #[Value.ref b] lw_all R_law) (F : lawF s g gm b L x xs LI meth) (hl0 : l.stackTraces = false) (hL : L ≤ 320) (i cl sl : Nat) (hi : 5 * i + 5 ≤ L) (hi64 : i < 64) (hcl : cl + 20 ≤ 603072) (hsl : sl + 405 ≤ 7202922) (hk : ∀ (M : Mm) (V : VV) (A : AA) (H : Heap) (locs : List Loc) (ls : Array Slot), LI (i + 1) M V A → HC g (lAD s gm) M H → HM gm V A H → va_S (lAL s) s.heap H locs → lv_has ls 4 [(0, .ref b), (1, .ref x), (2, .ref (mh gm)), (3, .int (nI (5 * i)))] → W p l e room_1 s m #[Value.ref b] below meth c H locs (cl + 20) (sl + 405) (lw_Z below #[Value.ref b] s) (F0 m 698 ls [])) : ∀ (M : Mm) (V : VV) (A : AA) (H : Heap) (locs : List Loc) (ls : Array Slot), LI (i) M V A → HC g (lAD s gm) M H → HM gm V A H → va_S (lAL s) s.heap H locs → lv_has ls 4 [(0, .ref b), (1, .ref x), (2, .ref (mh gm)), (3, .int (nI (5 * i)))] → W p l e room_1 s m #[Value.ref b] below meth c H locs (cl) (sl) (lw_Z below #[Value.ref b] s) (F0 m 171 ls []) := by
  have hx := S.1
  have hb := S.2.1
  have hown := S.2.2.2.1
  have hts := S.2.2.2.2
  intro M V A H locs ls hLI hH hM hS hl
  have hkx : mK M x = 1 := F.2.2.2.2.2.1.1 _ _ _ _ hLI
  refine lv_aload_n hx hb dL_law_171 rfl (lv_at hl 1 rfl) ?_
  refine lv_aload_n hx hb dL_law_172 rfl (lv_at hl 0 rfl) ?_
  refine lv_iload_n hx hb dL_law_173 rfl (lv_at hl 3 rfl) ?_
  refine lv_iconst (v := 1) hx hb dL_law_174 (by decide) ?_
  refine lv_iadd hx hb dL_law_175 ?_
  refine va_sld hx hb F.2.2.2.1.1 F.2.2.2.1.2 (lAL_b F) hS (lw_vp1 hi hL) dL_law_176 ?_
  have hw := F.2.2.2.2.2.1.2.2.2.2.1 _ M V A (xs (nI (5 * i) + 1).toNatClampNeg) hi64 hLI
  refine lx_calli (As := [.int (xs (nI (5 * i) + 1).toNatClampNeg)]) (mc := 1) (ms := 1) S F hH hM hS (m0_program l g (lAD s gm) M x (xs (nI (5 * i) + 1).toNatClampNeg) _ hkx hw) (cwV 1 hts (lw_V q392 q393 q394 q54 q395) rfl rfl rfl (by decide +kernel) ⟨Nat.le_of_ble_eq_true rfl, Nat.le_of_ble_eq_true rfl⟩) hkx rfl hl.1 rfl (lv_room (Nat.le_of_ble_eq_true rfl)) dL_law_177 ⟨by show _ ≤ 603072; omega, by show _ ≤ 7202922; omega⟩ (fun r1 M1 H locs hw hH hM hS => ?_)
  refine lv_aload_n hx hb dL_law_180 rfl (lv_at hl 2 rfl) ?_
  refine lv_aload_n hx hb dL_law_181 rfl (lv_at hl 0 rfl) ?_
  refine lv_iload_n hx hb dL_law_182 rfl (lv_at hl 3 rfl) ?_
  refine lv_iconst (v := 1) hx hb dL_law_183 (by decide) ?_
  refine lv_iadd hx hb dL_law_184 ?_
  refine va_sld hx hb F.2.2.2.1.1 F.2.2.2.1.2 (lAL_b F) hS (lw_vp1 hi hL) dL_law_185 ?_
  refine ly_calli (As := [.int (xs (nI (5 * i) + 1).toNatClampNeg)]) S F hH hM hS (m9_program l gm V A (xs (nI (5 * i) + 1).toNatClampNeg) _ F.2.2.1.2 hw) (cwV 1 hts (lw_V q922 q923 q924 q64 q925) rfl rfl rfl (by decide +kernel) ⟨Nat.le_of_ble_eq_true rfl, Nat.le_of_ble_eq_true rfl⟩) rfl hl.1 rfl (lv_room (Nat.le_of_ble_eq_true rfl)) dL_law_186 ⟨by show _ ≤ 603072; omega, by show _ ≤ 7202922; omega⟩ (fun r2 V1 A1 H locs kz hw hH hM hS => ?_)
  refine lv_icmp_eq (tgt := 698) hx hb dL_law_189 (by decide) (fun _ => ?_) (fun cf => absurd hw.1 cf)
  refine W.widen (k := cl + 20) (n := sl + 405) (by omega) (by omega) ?_
  exact hk _ _ _ _ _ _ (F.2.2.2.2.2.1.2.1 _ kz _ _ _ hw.2) hH hM hS hl
set_option maxHeartbeats 4000000 in
set_option maxRecDepth 100000 in
theorem lc_key {p : Program} {l : Launch} {e : Env} {s : State} {m : MethodId} {below : List Frame} {meth : Method} {c : Code} {g : CG} {gm : MG} {b L x : Nat} {xs : Nat → Int32} {LI : Nat → Mm → VV → AA → Prop} (S : CallFix p m c cL_law 4 s #[Value.ref b] lw_all R_law) (F : lawF s g gm b L x xs LI meth) (hl0 : l.stackTraces = false) (hL : L ≤ 320) (i cl sl : Nat) (hi : 5 * i + 5 ≤ L) (hi64 : i < 64) (hcl : cl + 20 ≤ 603072) (hsl : sl + 405 ≤ 7202922) (hk : ∀ (M : Mm) (V : VV) (A : AA) (H : Heap) (locs : List Loc) (ls : Array Slot), LI (i + 1) M V A → HC g (lAD s gm) M H → HM gm V A H → va_S (lAL s) s.heap H locs → lv_has ls 4 [(0, .ref b), (1, .ref x), (2, .ref (mh gm)), (3, .int (nI (5 * i)))] → W p l e room_1 s m #[Value.ref b] below meth c H locs (cl + 20) (sl + 405) (lw_Z below #[Value.ref b] s) (F0 m 698 ls [])) : ∀ (M : Mm) (V : VV) (A : AA) (H : Heap) (locs : List Loc) (ls : Array Slot), LI (i) M V A → HC g (lAD s gm) M H → HM gm V A H → va_S (lAL s) s.heap H locs → lv_has ls 4 [(0, .ref b), (1, .ref x), (2, .ref (mh gm)), (3, .int (nI (5 * i)))] → W p l e room_1 s m #[Value.ref b] below meth c H locs (cl) (sl) (lw_Z below #[Value.ref b] s) (F0 m 194 ls []) := by
  have hx := S.1
  have hb := S.2.1
  have hown := S.2.2.2.1
  have hts := S.2.2.2.2
  intro M V A H locs ls hLI hH hM hS hl
  have hkx : mK M x = 1 := F.2.2.2.2.2.1.1 _ _ _ _ hLI
  refine lv_aload_n hx hb dL_law_194 rfl (lv_at hl 1 rfl) ?_
  refine lv_aload_n hx hb dL_law_195 rfl (lv_at hl 0 rfl) ?_
  refine lv_iload_n hx hb dL_law_196 rfl (lv_at hl 3 rfl) ?_
  refine lv_iconst (v := 1) hx hb dL_law_197 (by decide) ?_
  refine lv_iadd hx hb dL_law_198 ?_
  refine va_sld hx hb F.2.2.2.1.1 F.2.2.2.1.2 (lAL_b F) hS (lw_vp1 hi hL) dL_law_199 ?_
  have hw := F.2.2.2.2.2.1.2.2.2.2.2.1 _ M V A (xs (nI (5 * i) + 1).toNatClampNeg) hi64 hLI
  refine lx_calli (As := [.int (xs (nI (5 * i) + 1).toNatClampNeg)]) (mc := 0) (ms := 0) S F hH hM hS (m0_key l g (lAD s gm) M x (xs (nI (5 * i) + 1).toNatClampNeg) _ hkx hw) (cwV 1 hts (lw_V q514 q515 q516 q54 q517) rfl rfl rfl (by decide +kernel) ⟨Nat.le_of_ble_eq_true rfl, Nat.le_of_ble_eq_true rfl⟩) hkx rfl hl.1 rfl (lv_room (Nat.le_of_ble_eq_true rfl)) dL_law_200 ⟨by show _ ≤ 603072; omega, by show _ ≤ 7202922; omega⟩ (fun r1 M1 H locs hw hH hM hS => ?_)
  refine lv_aload_n hx hb dL_law_203 rfl (lv_at hl 2 rfl) ?_
  refine lv_aload_n hx hb dL_law_204 rfl (lv_at hl 0 rfl) ?_
  refine lv_iload_n hx hb dL_law_205 rfl (lv_at hl 3 rfl) ?_
  refine lv_iconst (v := 1) hx hb dL_law_206 (by decide) ?_
  refine lv_iadd hx hb dL_law_207 ?_
  refine va_sld hx hb F.2.2.2.1.1 F.2.2.2.1.2 (lAL_b F) hS (lw_vp1 hi hL) dL_law_208 ?_
  refine ly_calli (As := [.int (xs (nI (5 * i) + 1).toNatClampNeg)]) S F hH hM hS (m9_key l gm V A (xs (nI (5 * i) + 1).toNatClampNeg) _ F.2.2.1.2 hw) (cwV 1 hts (lw_V q1106 q1107 q1108 q64 q1109) rfl rfl rfl (by decide +kernel) ⟨Nat.le_of_ble_eq_true rfl, Nat.le_of_ble_eq_true rfl⟩) rfl hl.1 rfl (lv_room (Nat.le_of_ble_eq_true rfl)) dL_law_209 ⟨by show _ ≤ 603072; omega, by show _ ≤ 7202922; omega⟩ (fun r2 V1 A1 H locs kz hw hH hM hS => ?_)
  refine lv_icmp_eq (tgt := 698) hx hb dL_law_212 (by decide) (fun _ => ?_) (fun cf => absurd hw.1 cf)
  refine W.widen (k := cl + 20) (n := sl + 405) (by omega) (by omega) ?_
  exact hk _ _ _ _ _ _ (F.2.2.2.2.2.1.2.1 _ kz _ _ _ hw.2) hH hM hS hl
set_option maxHeartbeats 4000000 in
set_option maxRecDepth 100000 in
theorem lc_write {p : Program} {l : Launch} {e : Env} {s : State} {m : MethodId} {below : List Frame} {meth : Method} {c : Code} {g : CG} {gm : MG} {b L x : Nat} {xs : Nat → Int32} {LI : Nat → Mm → VV → AA → Prop} (S : CallFix p m c cL_law 4 s #[Value.ref b] lw_all R_law) (F : lawF s g gm b L x xs LI meth) (hl0 : l.stackTraces = false) (hL : L ≤ 320) (i cl sl : Nat) (hi : 5 * i + 5 ≤ L) (hi64 : i < 64) (hcl : cl + 20 ≤ 603072) (hsl : sl + 405 ≤ 7202922) (hk : ∀ (M : Mm) (V : VV) (A : AA) (H : Heap) (locs : List Loc) (ls : Array Slot), LI (i + 1) M V A → HC g (lAD s gm) M H → HM gm V A H → va_S (lAL s) s.heap H locs → lv_has ls 4 [(0, .ref b), (1, .ref x), (2, .ref (mh gm)), (3, .int (nI (5 * i)))] → W p l e room_1 s m #[Value.ref b] below meth c H locs (cl + 20) (sl + 405) (lw_Z below #[Value.ref b] s) (F0 m 698 ls [])) : ∀ (M : Mm) (V : VV) (A : AA) (H : Heap) (locs : List Loc) (ls : Array Slot), LI (i) M V A → HC g (lAD s gm) M H → HM gm V A H → va_S (lAL s) s.heap H locs → lv_has ls 4 [(0, .ref b), (1, .ref x), (2, .ref (mh gm)), (3, .int (nI (5 * i)))] → W p l e room_1 s m #[Value.ref b] below meth c H locs (cl) (sl) (lw_Z below #[Value.ref b] s) (F0 m 217 ls []) := by
  have hx := S.1
  have hb := S.2.1
  have hown := S.2.2.2.1
  have hts := S.2.2.2.2
  intro M V A H locs ls hLI hH hM hS hl
  have hkx : mK M x = 1 := F.2.2.2.2.2.1.1 _ _ _ _ hLI
  refine lv_aload_n hx hb dL_law_217 rfl (lv_at hl 1 rfl) ?_
  refine lv_aload_n hx hb dL_law_218 rfl (lv_at hl 0 rfl) ?_
  refine lv_iload_n hx hb dL_law_219 rfl (lv_at hl 3 rfl) ?_
  refine lv_iconst (v := 1) hx hb dL_law_220 (by decide) ?_
  refine lv_iadd hx hb dL_law_221 ?_
  refine va_sld hx hb F.2.2.2.1.1 F.2.2.2.1.2 (lAL_b F) hS (lw_vp1 hi hL) dL_law_222 ?_
  have hw := F.2.2.2.2.2.1.2.2.2.2.2.2.1 _ M V A (xs (nI (5 * i) + 1).toNatClampNeg) hi64 hLI
  refine lx_calli (As := [.int (xs (nI (5 * i) + 1).toNatClampNeg)]) (mc := 0) (ms := 0) S F hH hM hS (m0_write l g (lAD s gm) M x (xs (nI (5 * i) + 1).toNatClampNeg) _ hkx hw) (cwV 1 hts (lw_V q396 q397 q398 q54 q399) rfl rfl rfl (by decide +kernel) ⟨Nat.le_of_ble_eq_true rfl, Nat.le_of_ble_eq_true rfl⟩) hkx rfl hl.1 rfl (lv_room (Nat.le_of_ble_eq_true rfl)) dL_law_223 ⟨by show _ ≤ 603072; omega, by show _ ≤ 7202922; omega⟩ (fun r1 M1 H locs hw hH hM hS => ?_)
  refine lv_aload_n hx hb dL_law_226 rfl (lv_at hl 2 rfl) ?_
  refine lv_aload_n hx hb dL_law_227 rfl (lv_at hl 0 rfl) ?_
  refine lv_iload_n hx hb dL_law_228 rfl (lv_at hl 3 rfl) ?_
  refine lv_iconst (v := 1) hx hb dL_law_229 (by decide) ?_
  refine lv_iadd hx hb dL_law_230 ?_
  refine va_sld hx hb F.2.2.2.1.1 F.2.2.2.1.2 (lAL_b F) hS (lw_vp1 hi hL) dL_law_231 ?_
  refine ly_calli (As := [.int (xs (nI (5 * i) + 1).toNatClampNeg)]) S F hH hM hS (m9_write l gm V A (xs (nI (5 * i) + 1).toNatClampNeg) _ F.2.2.1.2 hw) (cwV 1 hts (lw_V q926 q927 q928 q64 q929) rfl rfl rfl (by decide +kernel) ⟨Nat.le_of_ble_eq_true rfl, Nat.le_of_ble_eq_true rfl⟩) rfl hl.1 rfl (lv_room (Nat.le_of_ble_eq_true rfl)) dL_law_232 ⟨by show _ ≤ 603072; omega, by show _ ≤ 7202922; omega⟩ (fun r2 V1 A1 H locs kz hw hH hM hS => ?_)
  refine lv_icmp_eq (tgt := 698) hx hb dL_law_235 (by decide) (fun _ => ?_) (fun cf => absurd hw.1 cf)
  refine W.widen (k := cl + 20) (n := sl + 405) (by omega) (by omega) ?_
  exact hk _ _ _ _ _ _ (F.2.2.2.2.2.1.2.1 _ kz _ _ _ hw.2) hH hM hS hl
set_option maxHeartbeats 4000000 in
set_option maxRecDepth 100000 in
theorem lc_move {p : Program} {l : Launch} {e : Env} {s : State} {m : MethodId} {below : List Frame} {meth : Method} {c : Code} {g : CG} {gm : MG} {b L x : Nat} {xs : Nat → Int32} {LI : Nat → Mm → VV → AA → Prop} (S : CallFix p m c cL_law 4 s #[Value.ref b] lw_all R_law) (F : lawF s g gm b L x xs LI meth) (hl0 : l.stackTraces = false) (hL : L ≤ 320) (i cl sl : Nat) (hi : 5 * i + 5 ≤ L) (hi64 : i < 64) (hcl : cl + 20 ≤ 603072) (hsl : sl + 405 ≤ 7202922) (hk : ∀ (M : Mm) (V : VV) (A : AA) (H : Heap) (locs : List Loc) (ls : Array Slot), LI (i + 1) M V A → HC g (lAD s gm) M H → HM gm V A H → va_S (lAL s) s.heap H locs → lv_has ls 4 [(0, .ref b), (1, .ref x), (2, .ref (mh gm)), (3, .int (nI (5 * i)))] → W p l e room_1 s m #[Value.ref b] below meth c H locs (cl + 20) (sl + 405) (lw_Z below #[Value.ref b] s) (F0 m 698 ls [])) : ∀ (M : Mm) (V : VV) (A : AA) (H : Heap) (locs : List Loc) (ls : Array Slot), LI (i) M V A → HC g (lAD s gm) M H → HM gm V A H → va_S (lAL s) s.heap H locs → lv_has ls 4 [(0, .ref b), (1, .ref x), (2, .ref (mh gm)), (3, .int (nI (5 * i)))] → W p l e room_1 s m #[Value.ref b] below meth c H locs (cl) (sl) (lw_Z below #[Value.ref b] s) (F0 m 240 ls []) := by
  have hx := S.1
  have hb := S.2.1
  have hown := S.2.2.2.1
  have hts := S.2.2.2.2
  intro M V A H locs ls hLI hH hM hS hl
  have hkx : mK M x = 1 := F.2.2.2.2.2.1.1 _ _ _ _ hLI
  refine lv_aload_n hx hb dL_law_240 rfl (lv_at hl 1 rfl) ?_
  refine lv_aload_n hx hb dL_law_241 rfl (lv_at hl 0 rfl) ?_
  refine lv_iload_n hx hb dL_law_242 rfl (lv_at hl 3 rfl) ?_
  refine lv_iconst (v := 1) hx hb dL_law_243 (by decide) ?_
  refine lv_iadd hx hb dL_law_244 ?_
  refine va_sld hx hb F.2.2.2.1.1 F.2.2.2.1.2 (lAL_b F) hS (lw_vp1 hi hL) dL_law_245 ?_
  refine lv_aload_n hx hb dL_law_246 rfl (lv_at hl 0 rfl) ?_
  refine lv_iload_n hx hb dL_law_247 rfl (lv_at hl 3 rfl) ?_
  refine lv_iconst (v := 2) hx hb dL_law_248 (by decide) ?_
  refine lv_iadd hx hb dL_law_249 ?_
  refine va_sld hx hb F.2.2.2.1.1 F.2.2.2.1.2 (lAL_b F) hS (lw_vp2 hi hL) dL_law_250 ?_
  have hw := F.2.2.2.2.2.1.2.2.2.2.2.2.2.1 _ M V A (xs (nI (5 * i) + 1).toNatClampNeg) (xs (nI (5 * i) + 2).toNatClampNeg) hi64 hLI
  refine lx_calli (As := [.int (xs (nI (5 * i) + 1).toNatClampNeg), .int (xs (nI (5 * i) + 2).toNatClampNeg)]) (mc := 0) (ms := 0) S F hH hM hS (m0_move l g (lAD s gm) M x (xs (nI (5 * i) + 1).toNatClampNeg) (xs (nI (5 * i) + 2).toNatClampNeg) _ hkx hw) (cwV 2 hts (lw_V q420 q421 q422 q54 q423) rfl rfl rfl (by decide +kernel) ⟨Nat.le_of_ble_eq_true rfl, Nat.le_of_ble_eq_true rfl⟩) hkx rfl hl.1 rfl (lv_room (Nat.le_of_ble_eq_true rfl)) dL_law_251 ⟨by show _ ≤ 603072; omega, by show _ ≤ 7202922; omega⟩ (fun r1 M1 H locs hw hH hM hS => ?_)
  refine lv_aload_n hx hb dL_law_254 rfl (lv_at hl 2 rfl) ?_
  refine lv_aload_n hx hb dL_law_255 rfl (lv_at hl 0 rfl) ?_
  refine lv_iload_n hx hb dL_law_256 rfl (lv_at hl 3 rfl) ?_
  refine lv_iconst (v := 1) hx hb dL_law_257 (by decide) ?_
  refine lv_iadd hx hb dL_law_258 ?_
  refine va_sld hx hb F.2.2.2.1.1 F.2.2.2.1.2 (lAL_b F) hS (lw_vp1 hi hL) dL_law_259 ?_
  refine lv_aload_n hx hb dL_law_260 rfl (lv_at hl 0 rfl) ?_
  refine lv_iload_n hx hb dL_law_261 rfl (lv_at hl 3 rfl) ?_
  refine lv_iconst (v := 2) hx hb dL_law_262 (by decide) ?_
  refine lv_iadd hx hb dL_law_263 ?_
  refine va_sld hx hb F.2.2.2.1.1 F.2.2.2.1.2 (lAL_b F) hS (lw_vp2 hi hL) dL_law_264 ?_
  refine ly_calli (As := [.int (xs (nI (5 * i) + 1).toNatClampNeg), .int (xs (nI (5 * i) + 2).toNatClampNeg)]) S F hH hM hS (m9_move l gm V A (xs (nI (5 * i) + 1).toNatClampNeg) (xs (nI (5 * i) + 2).toNatClampNeg) _ F.2.2.1.2 hw) (cwV 2 hts (lw_V q949 q950 q951 q64 q952) rfl rfl rfl (by decide +kernel) ⟨Nat.le_of_ble_eq_true rfl, Nat.le_of_ble_eq_true rfl⟩) rfl hl.1 rfl (lv_room (Nat.le_of_ble_eq_true rfl)) dL_law_265 ⟨by show _ ≤ 603072; omega, by show _ ≤ 7202922; omega⟩ (fun r2 V1 A1 H locs kz hw hH hM hS => ?_)
  refine lv_icmp_eq (tgt := 698) hx hb dL_law_268 (by decide) (fun _ => ?_) (fun cf => absurd hw.1 cf)
  refine W.widen (k := cl + 20) (n := sl + 405) (by omega) (by omega) ?_
  exact hk _ _ _ _ _ _ (F.2.2.2.2.2.1.2.1 _ kz _ _ _ hw.2) hH hM hS hl
set_option maxHeartbeats 4000000 in
set_option maxRecDepth 100000 in
theorem lc_wipe {p : Program} {l : Launch} {e : Env} {s : State} {m : MethodId} {below : List Frame} {meth : Method} {c : Code} {g : CG} {gm : MG} {b L x : Nat} {xs : Nat → Int32} {LI : Nat → Mm → VV → AA → Prop} (S : CallFix p m c cL_law 4 s #[Value.ref b] lw_all R_law) (F : lawF s g gm b L x xs LI meth) (hl0 : l.stackTraces = false) (hL : L ≤ 320) (i cl sl : Nat) (hi : 5 * i + 5 ≤ L) (hi64 : i < 64) (hcl : cl + 20 ≤ 603072) (hsl : sl + 405 ≤ 7202922) (hk : ∀ (M : Mm) (V : VV) (A : AA) (H : Heap) (locs : List Loc) (ls : Array Slot), LI (i + 1) M V A → HC g (lAD s gm) M H → HM gm V A H → va_S (lAL s) s.heap H locs → lv_has ls 4 [(0, .ref b), (1, .ref x), (2, .ref (mh gm)), (3, .int (nI (5 * i)))] → W p l e room_1 s m #[Value.ref b] below meth c H locs (cl + 20) (sl + 405) (lw_Z below #[Value.ref b] s) (F0 m 698 ls [])) : ∀ (M : Mm) (V : VV) (A : AA) (H : Heap) (locs : List Loc) (ls : Array Slot), LI (i) M V A → HC g (lAD s gm) M H → HM gm V A H → va_S (lAL s) s.heap H locs → lv_has ls 4 [(0, .ref b), (1, .ref x), (2, .ref (mh gm)), (3, .int (nI (5 * i)))] → W p l e room_1 s m #[Value.ref b] below meth c H locs (cl) (sl) (lw_Z below #[Value.ref b] s) (F0 m 273 ls []) := by
  have hx := S.1
  have hb := S.2.1
  have hown := S.2.2.2.1
  have hts := S.2.2.2.2
  intro M V A H locs ls hLI hH hM hS hl
  have hkx : mK M x = 1 := F.2.2.2.2.2.1.1 _ _ _ _ hLI
  refine lv_aload_n hx hb dL_law_273 rfl (lv_at hl 1 rfl) ?_
  refine lv_aload_n hx hb dL_law_274 rfl (lv_at hl 0 rfl) ?_
  refine lv_iload_n hx hb dL_law_275 rfl (lv_at hl 3 rfl) ?_
  refine lv_iconst (v := 1) hx hb dL_law_276 (by decide) ?_
  refine lv_iadd hx hb dL_law_277 ?_
  refine va_sld hx hb F.2.2.2.1.1 F.2.2.2.1.2 (lAL_b F) hS (lw_vp1 hi hL) dL_law_278 ?_
  have hw := F.2.2.2.2.2.1.2.2.2.2.2.2.2.2.1 _ M V A (xs (nI (5 * i) + 1).toNatClampNeg) hi64 hLI
  refine lx_calliW (As := [.int (xs (nI (5 * i) + 1).toNatClampNeg)]) (mc := 3) (ms := 222) S F hH hM hS (m0_wipe l hl0 g (lAD s gm) M x (xs (nI (5 * i) + 1).toNatClampNeg) _ hkx hw) (lx_cwVW 1 hts (lw_VW q427 q428 q429 q54 q430) rfl rfl rfl (by decide +kernel) ⟨Nat.le_of_ble_eq_true rfl, Nat.le_of_ble_eq_true rfl⟩) hkx rfl hl.1 rfl (lv_room (Nat.le_of_ble_eq_true rfl)) dL_law_279 ⟨by show _ ≤ 603072; omega, by show _ ≤ 7202922; omega⟩ (fun r1 M1 H locs hw hH hM hS => ?_)
  refine lv_aload_n hx hb dL_law_282 rfl (lv_at hl 2 rfl) ?_
  refine lv_aload_n hx hb dL_law_283 rfl (lv_at hl 0 rfl) ?_
  refine lv_iload_n hx hb dL_law_284 rfl (lv_at hl 3 rfl) ?_
  refine lv_iconst (v := 1) hx hb dL_law_285 (by decide) ?_
  refine lv_iadd hx hb dL_law_286 ?_
  refine va_sld hx hb F.2.2.2.1.1 F.2.2.2.1.2 (lAL_b F) hS (lw_vp1 hi hL) dL_law_287 ?_
  refine ly_calli (As := [.int (xs (nI (5 * i) + 1).toNatClampNeg)]) S F hH hM hS (m9_wipe l gm V A (xs (nI (5 * i) + 1).toNatClampNeg) _ F.2.2.1.2 hw) (cwV 1 hts (lw_V q956 q957 q958 q64 q959) rfl rfl rfl (by decide +kernel) ⟨Nat.le_of_ble_eq_true rfl, Nat.le_of_ble_eq_true rfl⟩) rfl hl.1 rfl (lv_room (Nat.le_of_ble_eq_true rfl)) dL_law_288 ⟨by show _ ≤ 603072; omega, by show _ ≤ 7202922; omega⟩ (fun r2 V1 A1 H locs kz hw hH hM hS => ?_)
  refine lv_icmp_eq (tgt := 698) hx hb dL_law_291 (by decide) (fun _ => ?_) (fun cf => absurd hw.1 cf)
  refine W.widen (k := cl + 20) (n := sl + 405) (by omega) (by omega) ?_
  exact hk _ _ _ _ _ _ (F.2.2.2.2.2.1.2.1 _ kz _ _ _ hw.2) hH hM hS hl
set_option maxHeartbeats 4000000 in
set_option maxRecDepth 100000 in
theorem lc_scroll {p : Program} {l : Launch} {e : Env} {s : State} {m : MethodId} {below : List Frame} {meth : Method} {c : Code} {g : CG} {gm : MG} {b L x : Nat} {xs : Nat → Int32} {LI : Nat → Mm → VV → AA → Prop} (S : CallFix p m c cL_law 4 s #[Value.ref b] lw_all R_law) (F : lawF s g gm b L x xs LI meth) (hl0 : l.stackTraces = false) (hL : L ≤ 320) (i cl sl : Nat) (hi : 5 * i + 5 ≤ L) (hi64 : i < 64) (hcl : cl + 20 ≤ 603072) (hsl : sl + 405 ≤ 7202922) (hk : ∀ (M : Mm) (V : VV) (A : AA) (H : Heap) (locs : List Loc) (ls : Array Slot), LI (i + 1) M V A → HC g (lAD s gm) M H → HM gm V A H → va_S (lAL s) s.heap H locs → lv_has ls 4 [(0, .ref b), (1, .ref x), (2, .ref (mh gm)), (3, .int (nI (5 * i)))] → W p l e room_1 s m #[Value.ref b] below meth c H locs (cl + 20) (sl + 405) (lw_Z below #[Value.ref b] s) (F0 m 698 ls [])) : ∀ (M : Mm) (V : VV) (A : AA) (H : Heap) (locs : List Loc) (ls : Array Slot), LI (i) M V A → HC g (lAD s gm) M H → HM gm V A H → va_S (lAL s) s.heap H locs → lv_has ls 4 [(0, .ref b), (1, .ref x), (2, .ref (mh gm)), (3, .int (nI (5 * i)))] → W p l e room_1 s m #[Value.ref b] below meth c H locs (cl) (sl) (lw_Z below #[Value.ref b] s) (F0 m 296 ls []) := by
  have hx := S.1
  have hb := S.2.1
  have hown := S.2.2.2.1
  have hts := S.2.2.2.2
  intro M V A H locs ls hLI hH hM hS hl
  have hkx : mK M x = 1 := F.2.2.2.2.2.1.1 _ _ _ _ hLI
  refine lv_aload_n hx hb dL_law_296 rfl (lv_at hl 1 rfl) ?_
  refine lv_aload_n hx hb dL_law_297 rfl (lv_at hl 0 rfl) ?_
  refine lv_iload_n hx hb dL_law_298 rfl (lv_at hl 3 rfl) ?_
  refine lv_iconst (v := 1) hx hb dL_law_299 (by decide) ?_
  refine lv_iadd hx hb dL_law_300 ?_
  refine va_sld hx hb F.2.2.2.1.1 F.2.2.2.1.2 (lAL_b F) hS (lw_vp1 hi hL) dL_law_301 ?_
  have hw := F.2.2.2.2.2.1.2.2.2.2.2.2.2.2.2.1 _ M V A (xs (nI (5 * i) + 1).toNatClampNeg) hi64 hLI
  refine lx_calli (As := [.int (xs (nI (5 * i) + 1).toNatClampNeg)]) (mc := 0) (ms := 0) S F hH hM hS (m0_scroll l g (lAD s gm) M x (xs (nI (5 * i) + 1).toNatClampNeg) _ hkx hw) (cwV 1 hts (lw_V q505 q506 q507 q54 q508) rfl rfl rfl (by decide +kernel) ⟨Nat.le_of_ble_eq_true rfl, Nat.le_of_ble_eq_true rfl⟩) hkx rfl hl.1 rfl (lv_room (Nat.le_of_ble_eq_true rfl)) dL_law_302 ⟨by show _ ≤ 603072; omega, by show _ ≤ 7202922; omega⟩ (fun r1 M1 H locs hw hH hM hS => ?_)
  refine lv_aload_n hx hb dL_law_305 rfl (lv_at hl 2 rfl) ?_
  refine lv_aload_n hx hb dL_law_306 rfl (lv_at hl 0 rfl) ?_
  refine lv_iload_n hx hb dL_law_307 rfl (lv_at hl 3 rfl) ?_
  refine lv_iconst (v := 1) hx hb dL_law_308 (by decide) ?_
  refine lv_iadd hx hb dL_law_309 ?_
  refine va_sld hx hb F.2.2.2.1.1 F.2.2.2.1.2 (lAL_b F) hS (lw_vp1 hi hL) dL_law_310 ?_
  refine ly_calli (As := [.int (xs (nI (5 * i) + 1).toNatClampNeg)]) S F hH hM hS (m9_scroll l gm V A (xs (nI (5 * i) + 1).toNatClampNeg) _ F.2.2.1.2 hw) (cwV 1 hts (lw_V q960 q961 q962 q64 q963) rfl rfl rfl (by decide +kernel) ⟨Nat.le_of_ble_eq_true rfl, Nat.le_of_ble_eq_true rfl⟩) rfl hl.1 rfl (lv_room (Nat.le_of_ble_eq_true rfl)) dL_law_311 ⟨by show _ ≤ 603072; omega, by show _ ≤ 7202922; omega⟩ (fun r2 V1 A1 H locs kz hw hH hM hS => ?_)
  refine lv_icmp_eq (tgt := 698) hx hb dL_law_314 (by decide) (fun _ => ?_) (fun cf => absurd hw.1 cf)
  refine W.widen (k := cl + 20) (n := sl + 405) (by omega) (by omega) ?_
  exact hk _ _ _ _ _ _ (F.2.2.2.2.2.1.2.1 _ kz _ _ _ hw.2) hH hM hS hl
set_option maxHeartbeats 4000000 in
set_option maxRecDepth 100000 in
theorem lc_pen {p : Program} {l : Launch} {e : Env} {s : State} {m : MethodId} {below : List Frame} {meth : Method} {c : Code} {g : CG} {gm : MG} {b L x : Nat} {xs : Nat → Int32} {LI : Nat → Mm → VV → AA → Prop} (S : CallFix p m c cL_law 4 s #[Value.ref b] lw_all R_law) (F : lawF s g gm b L x xs LI meth) (hl0 : l.stackTraces = false) (hL : L ≤ 320) (i cl sl : Nat) (hi : 5 * i + 5 ≤ L) (hi64 : i < 64) (hcl : cl + 20 ≤ 603072) (hsl : sl + 405 ≤ 7202922) (hk : ∀ (M : Mm) (V : VV) (A : AA) (H : Heap) (locs : List Loc) (ls : Array Slot), LI (i + 1) M V A → HC g (lAD s gm) M H → HM gm V A H → va_S (lAL s) s.heap H locs → lv_has ls 4 [(0, .ref b), (1, .ref x), (2, .ref (mh gm)), (3, .int (nI (5 * i)))] → W p l e room_1 s m #[Value.ref b] below meth c H locs (cl + 20) (sl + 405) (lw_Z below #[Value.ref b] s) (F0 m 698 ls [])) : ∀ (M : Mm) (V : VV) (A : AA) (H : Heap) (locs : List Loc) (ls : Array Slot), LI (i) M V A → HC g (lAD s gm) M H → HM gm V A H → va_S (lAL s) s.heap H locs → lv_has ls 4 [(0, .ref b), (1, .ref x), (2, .ref (mh gm)), (3, .int (nI (5 * i)))] → W p l e room_1 s m #[Value.ref b] below meth c H locs (cl) (sl) (lw_Z below #[Value.ref b] s) (F0 m 319 ls []) := by
  have hx := S.1
  have hb := S.2.1
  have hown := S.2.2.2.1
  have hts := S.2.2.2.2
  intro M V A H locs ls hLI hH hM hS hl
  have hkx : mK M x = 1 := F.2.2.2.2.2.1.1 _ _ _ _ hLI
  refine lv_aload_n hx hb dL_law_319 rfl (lv_at hl 1 rfl) ?_
  refine lv_aload_n hx hb dL_law_320 rfl (lv_at hl 0 rfl) ?_
  refine lv_iload_n hx hb dL_law_321 rfl (lv_at hl 3 rfl) ?_
  refine lv_iconst (v := 1) hx hb dL_law_322 (by decide) ?_
  refine lv_iadd hx hb dL_law_323 ?_
  refine va_sld hx hb F.2.2.2.1.1 F.2.2.2.1.2 (lAL_b F) hS (lw_vp1 hi hL) dL_law_324 ?_
  have hw := F.2.2.2.2.2.1.2.2.2.2.2.2.2.2.2.2.1 _ M V A (xs (nI (5 * i) + 1).toNatClampNeg) hi64 hLI
  refine lx_calli (As := [.int (xs (nI (5 * i) + 1).toNatClampNeg)]) (mc := 0) (ms := 0) S F hH hM hS (m0_pen l g (lAD s gm) M x (xs (nI (5 * i) + 1).toNatClampNeg) _ hkx hw) (cwV 1 hts (lw_V q510 q511 q512 q54 q513) rfl rfl rfl (by decide +kernel) ⟨Nat.le_of_ble_eq_true rfl, Nat.le_of_ble_eq_true rfl⟩) hkx rfl hl.1 rfl (lv_room (Nat.le_of_ble_eq_true rfl)) dL_law_325 ⟨by show _ ≤ 603072; omega, by show _ ≤ 7202922; omega⟩ (fun r1 M1 H locs hw hH hM hS => ?_)
  refine lv_aload_n hx hb dL_law_328 rfl (lv_at hl 2 rfl) ?_
  refine lv_aload_n hx hb dL_law_329 rfl (lv_at hl 0 rfl) ?_
  refine lv_iload_n hx hb dL_law_330 rfl (lv_at hl 3 rfl) ?_
  refine lv_iconst (v := 1) hx hb dL_law_331 (by decide) ?_
  refine lv_iadd hx hb dL_law_332 ?_
  refine va_sld hx hb F.2.2.2.1.1 F.2.2.2.1.2 (lAL_b F) hS (lw_vp1 hi hL) dL_law_333 ?_
  refine ly_calli (As := [.int (xs (nI (5 * i) + 1).toNatClampNeg)]) S F hH hM hS (m9_pen l gm V A (xs (nI (5 * i) + 1).toNatClampNeg) _ F.2.2.1.2 hw) (cwV 1 hts (lw_V q964 q965 q966 q64 q967) rfl rfl rfl (by decide +kernel) ⟨Nat.le_of_ble_eq_true rfl, Nat.le_of_ble_eq_true rfl⟩) rfl hl.1 rfl (lv_room (Nat.le_of_ble_eq_true rfl)) dL_law_334 ⟨by show _ ≤ 603072; omega, by show _ ≤ 7202922; omega⟩ (fun r2 V1 A1 H locs kz hw hH hM hS => ?_)
  refine lv_icmp_eq (tgt := 698) hx hb dL_law_337 (by decide) (fun _ => ?_) (fun cf => absurd hw.1 cf)
  refine W.widen (k := cl + 20) (n := sl + 405) (by omega) (by omega) ?_
  exact hk _ _ _ _ _ _ (F.2.2.2.2.2.1.2.1 _ kz _ _ _ hw.2) hH hM hS hl
set_option maxHeartbeats 4000000 in
set_option maxRecDepth 100000 in
theorem lc_tick {p : Program} {l : Launch} {e : Env} {s : State} {m : MethodId} {below : List Frame} {meth : Method} {c : Code} {g : CG} {gm : MG} {b L x : Nat} {xs : Nat → Int32} {LI : Nat → Mm → VV → AA → Prop} (S : CallFix p m c cL_law 4 s #[Value.ref b] lw_all R_law) (F : lawF s g gm b L x xs LI meth) (hl0 : l.stackTraces = false) (hL : L ≤ 320) (i cl sl : Nat) (hi : 5 * i + 5 ≤ L) (hi64 : i < 64) (hcl : cl + 20 ≤ 603072) (hsl : sl + 405 ≤ 7202922) (hk : ∀ (M : Mm) (V : VV) (A : AA) (H : Heap) (locs : List Loc) (ls : Array Slot), LI (i + 1) M V A → HC g (lAD s gm) M H → HM gm V A H → va_S (lAL s) s.heap H locs → lv_has ls 4 [(0, .ref b), (1, .ref x), (2, .ref (mh gm)), (3, .int (nI (5 * i)))] → W p l e room_1 s m #[Value.ref b] below meth c H locs (cl + 20) (sl + 405) (lw_Z below #[Value.ref b] s) (F0 m 698 ls [])) : ∀ (M : Mm) (V : VV) (A : AA) (H : Heap) (locs : List Loc) (ls : Array Slot), LI (i) M V A → HC g (lAD s gm) M H → HM gm V A H → va_S (lAL s) s.heap H locs → lv_has ls 4 [(0, .ref b), (1, .ref x), (2, .ref (mh gm)), (3, .int (nI (5 * i)))] → W p l e room_1 s m #[Value.ref b] below meth c H locs (cl) (sl) (lw_Z below #[Value.ref b] s) (F0 m 342 ls []) := by
  have hx := S.1
  have hb := S.2.1
  have hown := S.2.2.2.1
  have hts := S.2.2.2.2
  intro M V A H locs ls hLI hH hM hS hl
  have hkx : mK M x = 1 := F.2.2.2.2.2.1.1 _ _ _ _ hLI
  refine lv_aload_n hx hb dL_law_342 rfl (lv_at hl 1 rfl) ?_
  have hw := F.2.2.2.2.2.1.2.2.2.2.2.2.2.2.2.2.2.1 _ M V A  hi64 hLI
  refine lx_calli (As := []) (mc := 0) (ms := 0) S F hH hM hS (m0_tick l g (lAD s gm) M x  _ hkx hw) (cwV 0 hts (lw_V q549 q550 q551 q54 q552) rfl rfl rfl (by decide +kernel) ⟨Nat.le_of_ble_eq_true rfl, Nat.le_of_ble_eq_true rfl⟩) hkx rfl hl.1 rfl (lv_room (Nat.le_of_ble_eq_true rfl)) dL_law_343 ⟨by show _ ≤ 603072; omega, by show _ ≤ 7202922; omega⟩ (fun r1 M1 H locs hw hH hM hS => ?_)
  refine lv_aload_n hx hb dL_law_346 rfl (lv_at hl 2 rfl) ?_
  refine ly_calli (As := []) S F hH hM hS (m9_tick l gm V A  _ F.2.2.1.2 hw) (cwV 0 hts (lw_V q968 q969 q970 q64 q971) rfl rfl rfl (by decide +kernel) ⟨Nat.le_of_ble_eq_true rfl, Nat.le_of_ble_eq_true rfl⟩) rfl hl.1 rfl (lv_room (Nat.le_of_ble_eq_true rfl)) dL_law_347 ⟨by show _ ≤ 603072; omega, by show _ ≤ 7202922; omega⟩ (fun r2 V1 A1 H locs kz hw hH hM hS => ?_)
  refine lv_icmp_eq (tgt := 698) hx hb dL_law_350 (by decide) (fun _ => ?_) (fun cf => absurd hw.1 cf)
  refine W.widen (k := cl + 20) (n := sl + 405) (by omega) (by omega) ?_
  exact hk _ _ _ _ _ _ (F.2.2.2.2.2.1.2.1 _ kz _ _ _ hw.2) hH hM hS hl
set_option maxHeartbeats 4000000 in
set_option maxRecDepth 100000 in
theorem lc_round {p : Program} {l : Launch} {e : Env} {s : State} {m : MethodId} {below : List Frame} {meth : Method} {c : Code} {g : CG} {gm : MG} {b L x : Nat} {xs : Nat → Int32} {LI : Nat → Mm → VV → AA → Prop} (S : CallFix p m c cL_law 4 s #[Value.ref b] lw_all R_law) (F : lawF s g gm b L x xs LI meth) (hl0 : l.stackTraces = false) (hL : L ≤ 320) (i cl sl : Nat) (hi : 5 * i + 5 ≤ L) (hi64 : i < 64) (hcl : cl + 20 ≤ 603072) (hsl : sl + 405 ≤ 7202922) (hk : ∀ (M : Mm) (V : VV) (A : AA) (H : Heap) (locs : List Loc) (ls : Array Slot), LI (i + 1) M V A → HC g (lAD s gm) M H → HM gm V A H → va_S (lAL s) s.heap H locs → lv_has ls 4 [(0, .ref b), (1, .ref x), (2, .ref (mh gm)), (3, .int (nI (5 * i)))] → W p l e room_1 s m #[Value.ref b] below meth c H locs (cl + 20) (sl + 405) (lw_Z below #[Value.ref b] s) (F0 m 698 ls [])) : ∀ (M : Mm) (V : VV) (A : AA) (H : Heap) (locs : List Loc) (ls : Array Slot), LI (i) M V A → HC g (lAD s gm) M H → HM gm V A H → va_S (lAL s) s.heap H locs → lv_has ls 4 [(0, .ref b), (1, .ref x), (2, .ref (mh gm)), (3, .int (nI (5 * i)))] → W p l e room_1 s m #[Value.ref b] below meth c H locs (cl) (sl) (lw_Z below #[Value.ref b] s) (F0 m 355 ls []) := by
  have hx := S.1
  have hb := S.2.1
  have hown := S.2.2.2.1
  have hts := S.2.2.2.2
  intro M V A H locs ls hLI hH hM hS hl
  have hkx : mK M x = 1 := F.2.2.2.2.2.1.1 _ _ _ _ hLI
  refine lv_aload_n hx hb dL_law_355 rfl (lv_at hl 1 rfl) ?_
  have hw := F.2.2.2.2.2.1.2.2.2.2.2.2.2.2.2.2.2.2.1 _ M V A  hi64 hLI
  refine lx_calli (As := []) (mc := 0) (ms := 0) S F hH hM hS (m0_round l g (lAD s gm) M x  _ hkx hw) (cwV 0 hts (lw_V q616 q617 q618 q54 q619) rfl rfl rfl (by decide +kernel) ⟨Nat.le_of_ble_eq_true rfl, Nat.le_of_ble_eq_true rfl⟩) hkx rfl hl.1 rfl (lv_room (Nat.le_of_ble_eq_true rfl)) dL_law_356 ⟨by show _ ≤ 603072; omega, by show _ ≤ 7202922; omega⟩ (fun r1 M1 H locs hw hH hM hS => ?_)
  refine lv_aload_n hx hb dL_law_359 rfl (lv_at hl 2 rfl) ?_
  refine ly_calli (As := []) S F hH hM hS (m9_round l gm V A  _ F.2.2.1.2 hw) (cwV 0 hts (lw_V q1097 q1098 q1099 q64 q1100) rfl rfl rfl (by decide +kernel) ⟨Nat.le_of_ble_eq_true rfl, Nat.le_of_ble_eq_true rfl⟩) rfl hl.1 rfl (lv_room (Nat.le_of_ble_eq_true rfl)) dL_law_360 ⟨by show _ ≤ 603072; omega, by show _ ≤ 7202922; omega⟩ (fun r2 V1 A1 H locs kz hw hH hM hS => ?_)
  refine lv_icmp_eq (tgt := 698) hx hb dL_law_363 (by decide) (fun _ => ?_) (fun cf => absurd hw.1 cf)
  refine W.widen (k := cl + 20) (n := sl + 405) (by omega) (by omega) ?_
  exact hk _ _ _ _ _ _ (F.2.2.2.2.2.1.2.1 _ kz _ _ _ hw.2) hH hM hS hl
set_option maxHeartbeats 4000000 in
set_option maxRecDepth 100000 in
theorem lc_carry {p : Program} {l : Launch} {e : Env} {s : State} {m : MethodId} {below : List Frame} {meth : Method} {c : Code} {g : CG} {gm : MG} {b L x : Nat} {xs : Nat → Int32} {LI : Nat → Mm → VV → AA → Prop} (S : CallFix p m c cL_law 4 s #[Value.ref b] lw_all R_law) (F : lawF s g gm b L x xs LI meth) (hl0 : l.stackTraces = false) (hL : L ≤ 320) (i cl sl : Nat) (hi : 5 * i + 5 ≤ L) (hi64 : i < 64) (hcl : cl + 20 ≤ 603072) (hsl : sl + 405 ≤ 7202922) (hk : ∀ (M : Mm) (V : VV) (A : AA) (H : Heap) (locs : List Loc) (ls : Array Slot), LI (i + 1) M V A → HC g (lAD s gm) M H → HM gm V A H → va_S (lAL s) s.heap H locs → lv_has ls 4 [(0, .ref b), (1, .ref x), (2, .ref (mh gm)), (3, .int (nI (5 * i)))] → W p l e room_1 s m #[Value.ref b] below meth c H locs (cl + 20) (sl + 405) (lw_Z below #[Value.ref b] s) (F0 m 698 ls [])) : ∀ (M : Mm) (V : VV) (A : AA) (H : Heap) (locs : List Loc) (ls : Array Slot), LI (i) M V A → HC g (lAD s gm) M H → HM gm V A H → va_S (lAL s) s.heap H locs → lv_has ls 4 [(0, .ref b), (1, .ref x), (2, .ref (mh gm)), (3, .int (nI (5 * i)))] → W p l e room_1 s m #[Value.ref b] below meth c H locs (cl) (sl) (lw_Z below #[Value.ref b] s) (F0 m 368 ls []) := by
  have hx := S.1
  have hb := S.2.1
  have hown := S.2.2.2.1
  have hts := S.2.2.2.2
  intro M V A H locs ls hLI hH hM hS hl
  have hkx : mK M x = 1 := F.2.2.2.2.2.1.1 _ _ _ _ hLI
  refine lv_aload_n hx hb dL_law_368 rfl (lv_at hl 1 rfl) ?_
  refine lv_aload_n hx hb dL_law_369 rfl (lv_at hl 0 rfl) ?_
  refine lv_iload_n hx hb dL_law_370 rfl (lv_at hl 3 rfl) ?_
  refine lv_iconst (v := 1) hx hb dL_law_371 (by decide) ?_
  refine lv_iadd hx hb dL_law_372 ?_
  refine va_sld hx hb F.2.2.2.1.1 F.2.2.2.1.2 (lAL_b F) hS (lw_vp1 hi hL) dL_law_373 ?_
  refine lv_aload_n hx hb dL_law_374 rfl (lv_at hl 0 rfl) ?_
  refine lv_iload_n hx hb dL_law_375 rfl (lv_at hl 3 rfl) ?_
  refine lv_iconst (v := 2) hx hb dL_law_376 (by decide) ?_
  refine lv_iadd hx hb dL_law_377 ?_
  refine va_sld hx hb F.2.2.2.1.1 F.2.2.2.1.2 (lAL_b F) hS (lw_vp2 hi hL) dL_law_378 ?_
  refine lv_aload_n hx hb dL_law_379 rfl (lv_at hl 0 rfl) ?_
  refine lv_iload_n hx hb dL_law_380 rfl (lv_at hl 3 rfl) ?_
  refine lv_iconst (v := 3) hx hb dL_law_381 (by decide) ?_
  refine lv_iadd hx hb dL_law_382 ?_
  refine va_sld hx hb F.2.2.2.1.1 F.2.2.2.1.2 (lAL_b F) hS (lw_vp3 hi hL) dL_law_383 ?_
  refine lv_aload_n hx hb dL_law_384 rfl (lv_at hl 0 rfl) ?_
  refine lv_iload_n hx hb dL_law_385 rfl (lv_at hl 3 rfl) ?_
  refine lv_iconst (v := 4) hx hb dL_law_386 (by decide) ?_
  refine lv_iadd hx hb dL_law_387 ?_
  refine va_sld hx hb F.2.2.2.1.1 F.2.2.2.1.2 (lAL_b F) hS (lw_vp4 hi hL) dL_law_388 ?_
  have hw := F.2.2.2.2.2.1.2.2.2.2.2.2.2.2.2.2.2.2.2.1 _ M V A (xs (nI (5 * i) + 1).toNatClampNeg) (xs (nI (5 * i) + 2).toNatClampNeg) (xs (nI (5 * i) + 3).toNatClampNeg) (xs (nI (5 * i) + 4).toNatClampNeg) hi64 hLI
  refine lx_calli (As := [.int (xs (nI (5 * i) + 1).toNatClampNeg), .int (xs (nI (5 * i) + 2).toNatClampNeg), .int (xs (nI (5 * i) + 3).toNatClampNeg), .int (xs (nI (5 * i) + 4).toNatClampNeg)]) (mc := 0) (ms := 0) S F hH hM hS (m0_carry l g (lAD s gm) M x (xs (nI (5 * i) + 1).toNatClampNeg) (xs (nI (5 * i) + 2).toNatClampNeg) (xs (nI (5 * i) + 3).toNatClampNeg) (xs (nI (5 * i) + 4).toNatClampNeg) _ hkx hw) (cwV 4 hts (lw_V q710 q711 q712 q54 q713) rfl rfl rfl (by decide +kernel) ⟨Nat.le_of_ble_eq_true rfl, Nat.le_of_ble_eq_true rfl⟩) hkx rfl hl.1 rfl (lv_room (Nat.le_of_ble_eq_true rfl)) dL_law_389 ⟨by show _ ≤ 603072; omega, by show _ ≤ 7202922; omega⟩ (fun r1 M1 H locs hw hH hM hS => ?_)
  refine lv_aload_n hx hb dL_law_392 rfl (lv_at hl 2 rfl) ?_
  refine lv_aload_n hx hb dL_law_393 rfl (lv_at hl 0 rfl) ?_
  refine lv_iload_n hx hb dL_law_394 rfl (lv_at hl 3 rfl) ?_
  refine lv_iconst (v := 1) hx hb dL_law_395 (by decide) ?_
  refine lv_iadd hx hb dL_law_396 ?_
  refine va_sld hx hb F.2.2.2.1.1 F.2.2.2.1.2 (lAL_b F) hS (lw_vp1 hi hL) dL_law_397 ?_
  refine lv_aload_n hx hb dL_law_398 rfl (lv_at hl 0 rfl) ?_
  refine lv_iload_n hx hb dL_law_399 rfl (lv_at hl 3 rfl) ?_
  refine lv_iconst (v := 2) hx hb dL_law_400 (by decide) ?_
  refine lv_iadd hx hb dL_law_401 ?_
  refine va_sld hx hb F.2.2.2.1.1 F.2.2.2.1.2 (lAL_b F) hS (lw_vp2 hi hL) dL_law_402 ?_
  refine lv_aload_n hx hb dL_law_403 rfl (lv_at hl 0 rfl) ?_
  refine lv_iload_n hx hb dL_law_404 rfl (lv_at hl 3 rfl) ?_
  refine lv_iconst (v := 3) hx hb dL_law_405 (by decide) ?_
  refine lv_iadd hx hb dL_law_406 ?_
  refine va_sld hx hb F.2.2.2.1.1 F.2.2.2.1.2 (lAL_b F) hS (lw_vp3 hi hL) dL_law_407 ?_
  refine lv_aload_n hx hb dL_law_408 rfl (lv_at hl 0 rfl) ?_
  refine lv_iload_n hx hb dL_law_409 rfl (lv_at hl 3 rfl) ?_
  refine lv_iconst (v := 4) hx hb dL_law_410 (by decide) ?_
  refine lv_iadd hx hb dL_law_411 ?_
  refine va_sld hx hb F.2.2.2.1.1 F.2.2.2.1.2 (lAL_b F) hS (lw_vp4 hi hL) dL_law_412 ?_
  refine ly_calli (As := [.int (xs (nI (5 * i) + 1).toNatClampNeg), .int (xs (nI (5 * i) + 2).toNatClampNeg), .int (xs (nI (5 * i) + 3).toNatClampNeg), .int (xs (nI (5 * i) + 4).toNatClampNeg)]) S F hH hM hS (m9_carry l gm V A (xs (nI (5 * i) + 1).toNatClampNeg) (xs (nI (5 * i) + 2).toNatClampNeg) (xs (nI (5 * i) + 3).toNatClampNeg) (xs (nI (5 * i) + 4).toNatClampNeg) _ F.2.2.1.2 hw) (cwV 4 hts (lw_V q1033 q1034 q1035 q64 q1036) rfl rfl rfl (by decide +kernel) ⟨Nat.le_of_ble_eq_true rfl, Nat.le_of_ble_eq_true rfl⟩) rfl hl.1 rfl (lv_room (Nat.le_of_ble_eq_true rfl)) dL_law_413 ⟨by show _ ≤ 603072; omega, by show _ ≤ 7202922; omega⟩ (fun r2 V1 A1 H locs kz hw hH hM hS => ?_)
  refine lv_icmp_eq (tgt := 698) hx hb dL_law_416 (by decide) (fun _ => ?_) (fun cf => absurd hw.1 cf)
  refine W.widen (k := cl + 20) (n := sl + 405) (by omega) (by omega) ?_
  exact hk _ _ _ _ _ _ (F.2.2.2.2.2.1.2.1 _ kz _ _ _ hw.2) hH hM hS hl
set_option maxHeartbeats 4000000 in
set_option maxRecDepth 100000 in
theorem lc_roam {p : Program} {l : Launch} {e : Env} {s : State} {m : MethodId} {below : List Frame} {meth : Method} {c : Code} {g : CG} {gm : MG} {b L x : Nat} {xs : Nat → Int32} {LI : Nat → Mm → VV → AA → Prop} (S : CallFix p m c cL_law 4 s #[Value.ref b] lw_all R_law) (F : lawF s g gm b L x xs LI meth) (hl0 : l.stackTraces = false) (hL : L ≤ 320) (i cl sl : Nat) (hi : 5 * i + 5 ≤ L) (hi64 : i < 64) (hcl : cl + 20 ≤ 603072) (hsl : sl + 405 ≤ 7202922) (hk : ∀ (M : Mm) (V : VV) (A : AA) (H : Heap) (locs : List Loc) (ls : Array Slot), LI (i + 1) M V A → HC g (lAD s gm) M H → HM gm V A H → va_S (lAL s) s.heap H locs → lv_has ls 4 [(0, .ref b), (1, .ref x), (2, .ref (mh gm)), (3, .int (nI (5 * i)))] → W p l e room_1 s m #[Value.ref b] below meth c H locs (cl + 20) (sl + 405) (lw_Z below #[Value.ref b] s) (F0 m 698 ls [])) : ∀ (M : Mm) (V : VV) (A : AA) (H : Heap) (locs : List Loc) (ls : Array Slot), LI (i) M V A → HC g (lAD s gm) M H → HM gm V A H → va_S (lAL s) s.heap H locs → lv_has ls 4 [(0, .ref b), (1, .ref x), (2, .ref (mh gm)), (3, .int (nI (5 * i)))] → W p l e room_1 s m #[Value.ref b] below meth c H locs (cl) (sl) (lw_Z below #[Value.ref b] s) (F0 m 421 ls []) := by
  have hx := S.1
  have hb := S.2.1
  have hown := S.2.2.2.1
  have hts := S.2.2.2.2
  intro M V A H locs ls hLI hH hM hS hl
  have hkx : mK M x = 1 := F.2.2.2.2.2.1.1 _ _ _ _ hLI
  refine lv_aload_n hx hb dL_law_421 rfl (lv_at hl 1 rfl) ?_
  have hw := F.2.2.2.2.2.1.2.2.2.2.2.2.2.2.2.2.2.2.2.2.1 _ M V A  hi64 hLI
  refine lx_calli (As := []) (mc := 0) (ms := 0) S F hH hM hS (m0_roam l g (lAD s gm) M x  _ hkx hw) (cwV 0 hts (lw_V q714 q715 q716 q54 q717) rfl rfl rfl (by decide +kernel) ⟨Nat.le_of_ble_eq_true rfl, Nat.le_of_ble_eq_true rfl⟩) hkx rfl hl.1 rfl (lv_room (Nat.le_of_ble_eq_true rfl)) dL_law_422 ⟨by show _ ≤ 603072; omega, by show _ ≤ 7202922; omega⟩ (fun r1 M1 H locs hw hH hM hS => ?_)
  refine lv_aload_n hx hb dL_law_425 rfl (lv_at hl 2 rfl) ?_
  refine ly_calli (As := []) S F hH hM hS (m9_roam l gm V A  _ F.2.2.1.2 hw) (cwV 0 hts (lw_V q1102 q1103 q1104 q64 q1105) rfl rfl rfl (by decide +kernel) ⟨Nat.le_of_ble_eq_true rfl, Nat.le_of_ble_eq_true rfl⟩) rfl hl.1 rfl (lv_room (Nat.le_of_ble_eq_true rfl)) dL_law_426 ⟨by show _ ≤ 603072; omega, by show _ ≤ 7202922; omega⟩ (fun r2 V1 A1 H locs kz hw hH hM hS => ?_)
  refine lv_icmp_eq (tgt := 698) hx hb dL_law_429 (by decide) (fun _ => ?_) (fun cf => absurd hw.1 cf)
  refine W.widen (k := cl + 20) (n := sl + 405) (by omega) (by omega) ?_
  exact hk _ _ _ _ _ _ (F.2.2.2.2.2.1.2.1 _ kz _ _ _ hw.2) hH hM hS hl
set_option maxHeartbeats 4000000 in
set_option maxRecDepth 100000 in
theorem lc_cell {p : Program} {l : Launch} {e : Env} {s : State} {m : MethodId} {below : List Frame} {meth : Method} {c : Code} {g : CG} {gm : MG} {b L x : Nat} {xs : Nat → Int32} {LI : Nat → Mm → VV → AA → Prop} (S : CallFix p m c cL_law 4 s #[Value.ref b] lw_all R_law) (F : lawF s g gm b L x xs LI meth) (hl0 : l.stackTraces = false) (hL : L ≤ 320) (i cl sl : Nat) (hi : 5 * i + 5 ≤ L) (hi64 : i < 64) (hcl : cl + 20 ≤ 603072) (hsl : sl + 405 ≤ 7202922) (hk : ∀ (M : Mm) (V : VV) (A : AA) (H : Heap) (locs : List Loc) (ls : Array Slot), LI (i + 1) M V A → HC g (lAD s gm) M H → HM gm V A H → va_S (lAL s) s.heap H locs → lv_has ls 4 [(0, .ref b), (1, .ref x), (2, .ref (mh gm)), (3, .int (nI (5 * i)))] → W p l e room_1 s m #[Value.ref b] below meth c H locs (cl + 20) (sl + 405) (lw_Z below #[Value.ref b] s) (F0 m 698 ls [])) : ∀ (M : Mm) (V : VV) (A : AA) (H : Heap) (locs : List Loc) (ls : Array Slot), LI (i) M V A → HC g (lAD s gm) M H → HM gm V A H → va_S (lAL s) s.heap H locs → lv_has ls 4 [(0, .ref b), (1, .ref x), (2, .ref (mh gm)), (3, .int (nI (5 * i)))] → W p l e room_1 s m #[Value.ref b] below meth c H locs (cl) (sl) (lw_Z below #[Value.ref b] s) (F0 m 434 ls []) := by
  have hx := S.1
  have hb := S.2.1
  have hown := S.2.2.2.1
  have hts := S.2.2.2.2
  intro M V A H locs ls hLI hH hM hS hl
  have hkx : mK M x = 1 := F.2.2.2.2.2.1.1 _ _ _ _ hLI
  refine lv_aload_n hx hb dL_law_434 rfl (lv_at hl 1 rfl) ?_
  refine lv_aload_n hx hb dL_law_435 rfl (lv_at hl 0 rfl) ?_
  refine lv_iload_n hx hb dL_law_436 rfl (lv_at hl 3 rfl) ?_
  refine lv_iconst (v := 1) hx hb dL_law_437 (by decide) ?_
  refine lv_iadd hx hb dL_law_438 ?_
  refine va_sld hx hb F.2.2.2.1.1 F.2.2.2.1.2 (lAL_b F) hS (lw_vp1 hi hL) dL_law_439 ?_
  refine lv_aload_n hx hb dL_law_440 rfl (lv_at hl 0 rfl) ?_
  refine lv_iload_n hx hb dL_law_441 rfl (lv_at hl 3 rfl) ?_
  refine lv_iconst (v := 2) hx hb dL_law_442 (by decide) ?_
  refine lv_iadd hx hb dL_law_443 ?_
  refine va_sld hx hb F.2.2.2.1.1 F.2.2.2.1.2 (lAL_b F) hS (lw_vp2 hi hL) dL_law_444 ?_
  refine lv_aload_n hx hb dL_law_445 rfl (lv_at hl 0 rfl) ?_
  refine lv_iload_n hx hb dL_law_446 rfl (lv_at hl 3 rfl) ?_
  refine lv_iconst (v := 3) hx hb dL_law_447 (by decide) ?_
  refine lv_iadd hx hb dL_law_448 ?_
  refine va_sld hx hb F.2.2.2.1.1 F.2.2.2.1.2 (lAL_b F) hS (lw_vp3 hi hL) dL_law_449 ?_
  refine lv_aload_n hx hb dL_law_450 rfl (lv_at hl 0 rfl) ?_
  refine lv_iload_n hx hb dL_law_451 rfl (lv_at hl 3 rfl) ?_
  refine lv_iconst (v := 4) hx hb dL_law_452 (by decide) ?_
  refine lv_iadd hx hb dL_law_453 ?_
  refine va_sld hx hb F.2.2.2.1.1 F.2.2.2.1.2 (lAL_b F) hS (lw_vp4 hi hL) dL_law_454 ?_
  have hw := F.2.2.2.2.2.1.2.2.2.2.2.2.2.2.2.2.2.2.2.2.2.1 _ M V A (xs (nI (5 * i) + 1).toNatClampNeg) (xs (nI (5 * i) + 2).toNatClampNeg) (xs (nI (5 * i) + 3).toNatClampNeg) (xs (nI (5 * i) + 4).toNatClampNeg) hi64 hLI
  refine lx_calliW (As := [.int (xs (nI (5 * i) + 1).toNatClampNeg), .int (xs (nI (5 * i) + 2).toNatClampNeg), .int (xs (nI (5 * i) + 3).toNatClampNeg), .int (xs (nI (5 * i) + 4).toNatClampNeg)]) (mc := 3) (ms := 222) S F hH hM hS (m0_cell l hl0 g (lAD s gm) M x (xs (nI (5 * i) + 1).toNatClampNeg) (xs (nI (5 * i) + 2).toNatClampNeg) (xs (nI (5 * i) + 3).toNatClampNeg) (xs (nI (5 * i) + 4).toNatClampNeg) _ hkx hw) (lx_cwVW 4 hts (lw_VW q718 q719 q720 q54 q721) rfl rfl rfl (by decide +kernel) ⟨Nat.le_of_ble_eq_true rfl, Nat.le_of_ble_eq_true rfl⟩) hkx rfl hl.1 rfl (lv_room (Nat.le_of_ble_eq_true rfl)) dL_law_455 ⟨by show _ ≤ 603072; omega, by show _ ≤ 7202922; omega⟩ (fun r1 M1 H locs hw hH hM hS => ?_)
  refine lv_aload_n hx hb dL_law_458 rfl (lv_at hl 2 rfl) ?_
  refine lv_aload_n hx hb dL_law_459 rfl (lv_at hl 0 rfl) ?_
  refine lv_iload_n hx hb dL_law_460 rfl (lv_at hl 3 rfl) ?_
  refine lv_iconst (v := 1) hx hb dL_law_461 (by decide) ?_
  refine lv_iadd hx hb dL_law_462 ?_
  refine va_sld hx hb F.2.2.2.1.1 F.2.2.2.1.2 (lAL_b F) hS (lw_vp1 hi hL) dL_law_463 ?_
  refine lv_aload_n hx hb dL_law_464 rfl (lv_at hl 0 rfl) ?_
  refine lv_iload_n hx hb dL_law_465 rfl (lv_at hl 3 rfl) ?_
  refine lv_iconst (v := 2) hx hb dL_law_466 (by decide) ?_
  refine lv_iadd hx hb dL_law_467 ?_
  refine va_sld hx hb F.2.2.2.1.1 F.2.2.2.1.2 (lAL_b F) hS (lw_vp2 hi hL) dL_law_468 ?_
  refine lv_aload_n hx hb dL_law_469 rfl (lv_at hl 0 rfl) ?_
  refine lv_iload_n hx hb dL_law_470 rfl (lv_at hl 3 rfl) ?_
  refine lv_iconst (v := 3) hx hb dL_law_471 (by decide) ?_
  refine lv_iadd hx hb dL_law_472 ?_
  refine va_sld hx hb F.2.2.2.1.1 F.2.2.2.1.2 (lAL_b F) hS (lw_vp3 hi hL) dL_law_473 ?_
  refine lv_aload_n hx hb dL_law_474 rfl (lv_at hl 0 rfl) ?_
  refine lv_iload_n hx hb dL_law_475 rfl (lv_at hl 3 rfl) ?_
  refine lv_iconst (v := 4) hx hb dL_law_476 (by decide) ?_
  refine lv_iadd hx hb dL_law_477 ?_
  refine va_sld hx hb F.2.2.2.1.1 F.2.2.2.1.2 (lAL_b F) hS (lw_vp4 hi hL) dL_law_478 ?_
  refine ly_calli (As := [.int (xs (nI (5 * i) + 1).toNatClampNeg), .int (xs (nI (5 * i) + 2).toNatClampNeg), .int (xs (nI (5 * i) + 3).toNatClampNeg), .int (xs (nI (5 * i) + 4).toNatClampNeg)]) S F hH hM hS (m9_cell l gm V A (xs (nI (5 * i) + 1).toNatClampNeg) (xs (nI (5 * i) + 2).toNatClampNeg) (xs (nI (5 * i) + 3).toNatClampNeg) (xs (nI (5 * i) + 4).toNatClampNeg) _ F.2.2.1.2 hw) (cwV 4 hts (lw_V q1114 q1115 q1116 q64 q1117) rfl rfl rfl (by decide +kernel) ⟨Nat.le_of_ble_eq_true rfl, Nat.le_of_ble_eq_true rfl⟩) rfl hl.1 rfl (lv_room (Nat.le_of_ble_eq_true rfl)) dL_law_479 ⟨by show _ ≤ 603072; omega, by show _ ≤ 7202922; omega⟩ (fun r2 V1 A1 H locs kz hw hH hM hS => ?_)
  refine lv_icmp_eq (tgt := 698) hx hb dL_law_482 (by decide) (fun _ => ?_) (fun cf => absurd hw.1 cf)
  refine W.widen (k := cl + 20) (n := sl + 405) (by omega) (by omega) ?_
  exact hk _ _ _ _ _ _ (F.2.2.2.2.2.1.2.1 _ kz _ _ _ hw.2) hH hM hS hl
set_option maxHeartbeats 4000000 in
set_option maxRecDepth 100000 in
theorem lc_cursor {p : Program} {l : Launch} {e : Env} {s : State} {m : MethodId} {below : List Frame} {meth : Method} {c : Code} {g : CG} {gm : MG} {b L x : Nat} {xs : Nat → Int32} {LI : Nat → Mm → VV → AA → Prop} (S : CallFix p m c cL_law 4 s #[Value.ref b] lw_all R_law) (F : lawF s g gm b L x xs LI meth) (hl0 : l.stackTraces = false) (hL : L ≤ 320) (i cl sl : Nat) (hi : 5 * i + 5 ≤ L) (hi64 : i < 64) (hcl : cl + 20 ≤ 603072) (hsl : sl + 405 ≤ 7202922) (hk : ∀ (M : Mm) (V : VV) (A : AA) (H : Heap) (locs : List Loc) (ls : Array Slot), LI (i + 1) M V A → HC g (lAD s gm) M H → HM gm V A H → va_S (lAL s) s.heap H locs → lv_has ls 4 [(0, .ref b), (1, .ref x), (2, .ref (mh gm)), (3, .int (nI (5 * i)))] → W p l e room_1 s m #[Value.ref b] below meth c H locs (cl + 20) (sl + 405) (lw_Z below #[Value.ref b] s) (F0 m 698 ls [])) : ∀ (M : Mm) (V : VV) (A : AA) (H : Heap) (locs : List Loc) (ls : Array Slot), LI (i) M V A → HC g (lAD s gm) M H → HM gm V A H → va_S (lAL s) s.heap H locs → lv_has ls 4 [(0, .ref b), (1, .ref x), (2, .ref (mh gm)), (3, .int (nI (5 * i)))] → W p l e room_1 s m #[Value.ref b] below meth c H locs (cl) (sl) (lw_Z below #[Value.ref b] s) (F0 m 487 ls []) := by
  have hx := S.1
  have hb := S.2.1
  have hown := S.2.2.2.1
  have hts := S.2.2.2.2
  intro M V A H locs ls hLI hH hM hS hl
  have hkx : mK M x = 1 := F.2.2.2.2.2.1.1 _ _ _ _ hLI
  refine lv_aload_n hx hb dL_law_487 rfl (lv_at hl 1 rfl) ?_
  refine lv_aload_n hx hb dL_law_488 rfl (lv_at hl 0 rfl) ?_
  refine lv_iload_n hx hb dL_law_489 rfl (lv_at hl 3 rfl) ?_
  refine lv_iconst (v := 1) hx hb dL_law_490 (by decide) ?_
  refine lv_iadd hx hb dL_law_491 ?_
  refine va_sld hx hb F.2.2.2.1.1 F.2.2.2.1.2 (lAL_b F) hS (lw_vp1 hi hL) dL_law_492 ?_
  refine lv_aload_n hx hb dL_law_493 rfl (lv_at hl 0 rfl) ?_
  refine lv_iload_n hx hb dL_law_494 rfl (lv_at hl 3 rfl) ?_
  refine lv_iconst (v := 2) hx hb dL_law_495 (by decide) ?_
  refine lv_iadd hx hb dL_law_496 ?_
  refine va_sld hx hb F.2.2.2.1.1 F.2.2.2.1.2 (lAL_b F) hS (lw_vp2 hi hL) dL_law_497 ?_
  have hw := F.2.2.2.2.2.1.2.2.2.2.2.2.2.2.2.2.2.2.2.2.2.2.1 _ M V A (xs (nI (5 * i) + 1).toNatClampNeg) (xs (nI (5 * i) + 2).toNatClampNeg) hi64 hLI
  refine lx_calli (As := [.int (xs (nI (5 * i) + 1).toNatClampNeg), .int (xs (nI (5 * i) + 2).toNatClampNeg)]) (mc := 0) (ms := 0) S F hH hM hS (m0_cursor l g (lAD s gm) M x (xs (nI (5 * i) + 1).toNatClampNeg) (xs (nI (5 * i) + 2).toNatClampNeg) _ hkx hw) (cwV 2 hts (lw_V q726 q727 q728 q54 q729) rfl rfl rfl (by decide +kernel) ⟨Nat.le_of_ble_eq_true rfl, Nat.le_of_ble_eq_true rfl⟩) hkx rfl hl.1 rfl (lv_room (Nat.le_of_ble_eq_true rfl)) dL_law_498 ⟨by show _ ≤ 603072; omega, by show _ ≤ 7202922; omega⟩ (fun r1 M1 H locs hw hH hM hS => ?_)
  refine lv_aload_n hx hb dL_law_501 rfl (lv_at hl 2 rfl) ?_
  refine lv_aload_n hx hb dL_law_502 rfl (lv_at hl 0 rfl) ?_
  refine lv_iload_n hx hb dL_law_503 rfl (lv_at hl 3 rfl) ?_
  refine lv_iconst (v := 1) hx hb dL_law_504 (by decide) ?_
  refine lv_iadd hx hb dL_law_505 ?_
  refine va_sld hx hb F.2.2.2.1.1 F.2.2.2.1.2 (lAL_b F) hS (lw_vp1 hi hL) dL_law_506 ?_
  refine lv_aload_n hx hb dL_law_507 rfl (lv_at hl 0 rfl) ?_
  refine lv_iload_n hx hb dL_law_508 rfl (lv_at hl 3 rfl) ?_
  refine lv_iconst (v := 2) hx hb dL_law_509 (by decide) ?_
  refine lv_iadd hx hb dL_law_510 ?_
  refine va_sld hx hb F.2.2.2.1.1 F.2.2.2.1.2 (lAL_b F) hS (lw_vp2 hi hL) dL_law_511 ?_
  refine ly_calli (As := [.int (xs (nI (5 * i) + 1).toNatClampNeg), .int (xs (nI (5 * i) + 2).toNatClampNeg)]) S F hH hM hS (m9_cursor l gm V A (xs (nI (5 * i) + 1).toNatClampNeg) (xs (nI (5 * i) + 2).toNatClampNeg) _ F.2.2.1.2 hw) (cwV 2 hts (lw_V q1122 q1123 q1124 q64 q1125) rfl rfl rfl (by decide +kernel) ⟨Nat.le_of_ble_eq_true rfl, Nat.le_of_ble_eq_true rfl⟩) rfl hl.1 rfl (lv_room (Nat.le_of_ble_eq_true rfl)) dL_law_512 ⟨by show _ ≤ 603072; omega, by show _ ≤ 7202922; omega⟩ (fun r2 V1 A1 H locs kz hw hH hM hS => ?_)
  refine lv_icmp_eq (tgt := 698) hx hb dL_law_515 (by decide) (fun _ => ?_) (fun cf => absurd hw.1 cf)
  refine W.widen (k := cl + 20) (n := sl + 405) (by omega) (by omega) ?_
  exact hk _ _ _ _ _ _ (F.2.2.2.2.2.1.2.1 _ kz _ _ _ hw.2) hH hM hS hl
set_option maxHeartbeats 4000000 in
set_option maxRecDepth 100000 in
theorem lc_alike {p : Program} {l : Launch} {e : Env} {s : State} {m : MethodId} {below : List Frame} {meth : Method} {c : Code} {g : CG} {gm : MG} {b L x : Nat} {xs : Nat → Int32} {LI : Nat → Mm → VV → AA → Prop} (S : CallFix p m c cL_law 4 s #[Value.ref b] lw_all R_law) (F : lawF s g gm b L x xs LI meth) (hl0 : l.stackTraces = false) (hL : L ≤ 320) (i cl sl : Nat) (hi : 5 * i + 5 ≤ L) (hi64 : i < 64) (hcl : cl + 20 ≤ 603072) (hsl : sl + 405 ≤ 7202922) (hk : ∀ (M : Mm) (V : VV) (A : AA) (H : Heap) (locs : List Loc) (ls : Array Slot), LI (i + 1) M V A → HC g (lAD s gm) M H → HM gm V A H → va_S (lAL s) s.heap H locs → lv_has ls 4 [(0, .ref b), (1, .ref x), (2, .ref (mh gm)), (3, .int (nI (5 * i)))] → W p l e room_1 s m #[Value.ref b] below meth c H locs (cl + 20) (sl + 405) (lw_Z below #[Value.ref b] s) (F0 m 698 ls [])) : ∀ (M : Mm) (V : VV) (A : AA) (H : Heap) (locs : List Loc) (ls : Array Slot), LI (i) M V A → HC g (lAD s gm) M H → HM gm V A H → va_S (lAL s) s.heap H locs → lv_has ls 4 [(0, .ref b), (1, .ref x), (2, .ref (mh gm)), (3, .int (nI (5 * i)))] → W p l e room_1 s m #[Value.ref b] below meth c H locs (cl) (sl) (lw_Z below #[Value.ref b] s) (F0 m 520 ls []) := by
  have hx := S.1
  have hb := S.2.1
  have hown := S.2.2.2.1
  have hts := S.2.2.2.2
  intro M V A H locs ls hLI hH hM hS hl
  have hkx : mK M x = 1 := F.2.2.2.2.2.1.1 _ _ _ _ hLI
  refine lv_aload_n hx hb dL_law_520 rfl (lv_at hl 1 rfl) ?_
  have hw := F.2.2.2.2.2.1.2.2.2.2.2.2.2.2.2.2.2.2.2.2.2.2.2.1 _ M V A  hi64 hLI
  refine lx_calli (As := []) (mc := 0) (ms := 0) S F hH hM hS (m0_alike l g (lAD s gm) M x  _ hkx hw) (cwV 0 hts (lw_V q730 q731 q732 q54 q733) rfl rfl rfl (by decide +kernel) ⟨Nat.le_of_ble_eq_true rfl, Nat.le_of_ble_eq_true rfl⟩) hkx rfl hl.1 rfl (lv_room (Nat.le_of_ble_eq_true rfl)) dL_law_521 ⟨by show _ ≤ 603072; omega, by show _ ≤ 7202922; omega⟩ (fun r1 M1 H locs hw hH hM hS => ?_)
  refine lv_aload_n hx hb dL_law_524 rfl (lv_at hl 2 rfl) ?_
  refine ly_calli (As := []) S F hH hM hS (m9_alike l gm V A  _ F.2.2.1.2 hw) (cwV 0 hts (lw_V q1126 q1127 q1128 q64 q1129) rfl rfl rfl (by decide +kernel) ⟨Nat.le_of_ble_eq_true rfl, Nat.le_of_ble_eq_true rfl⟩) rfl hl.1 rfl (lv_room (Nat.le_of_ble_eq_true rfl)) dL_law_525 ⟨by show _ ≤ 603072; omega, by show _ ≤ 7202922; omega⟩ (fun r2 V1 A1 H locs kz hw hH hM hS => ?_)
  refine lv_icmp_eq (tgt := 698) hx hb dL_law_528 (by decide) (fun _ => ?_) (fun cf => absurd hw.1 cf)
  refine W.widen (k := cl + 20) (n := sl + 405) (by omega) (by omega) ?_
  exact hk _ _ _ _ _ _ (F.2.2.2.2.2.1.2.1 _ kz _ _ _ hw.2) hH hM hS hl
set_option maxHeartbeats 4000000 in
set_option maxRecDepth 100000 in
theorem lc_state {p : Program} {l : Launch} {e : Env} {s : State} {m : MethodId} {below : List Frame} {meth : Method} {c : Code} {g : CG} {gm : MG} {b L x : Nat} {xs : Nat → Int32} {LI : Nat → Mm → VV → AA → Prop} (S : CallFix p m c cL_law 4 s #[Value.ref b] lw_all R_law) (F : lawF s g gm b L x xs LI meth) (hl0 : l.stackTraces = false) (hL : L ≤ 320) (i cl sl : Nat) (hi : 5 * i + 5 ≤ L) (hi64 : i < 64) (hcl : cl + 20 ≤ 603072) (hsl : sl + 405 ≤ 7202922) (hk : ∀ (M : Mm) (V : VV) (A : AA) (H : Heap) (locs : List Loc) (ls : Array Slot), LI (i + 1) M V A → HC g (lAD s gm) M H → HM gm V A H → va_S (lAL s) s.heap H locs → lv_has ls 4 [(0, .ref b), (1, .ref x), (2, .ref (mh gm)), (3, .int (nI (5 * i)))] → W p l e room_1 s m #[Value.ref b] below meth c H locs (cl + 20) (sl + 405) (lw_Z below #[Value.ref b] s) (F0 m 698 ls [])) : ∀ (M : Mm) (V : VV) (A : AA) (H : Heap) (locs : List Loc) (ls : Array Slot), LI (i) M V A → HC g (lAD s gm) M H → HM gm V A H → va_S (lAL s) s.heap H locs → lv_has ls 4 [(0, .ref b), (1, .ref x), (2, .ref (mh gm)), (3, .int (nI (5 * i)))] → W p l e room_1 s m #[Value.ref b] below meth c H locs (cl) (sl) (lw_Z below #[Value.ref b] s) (F0 m 533 ls []) := by
  have hx := S.1
  have hb := S.2.1
  have hown := S.2.2.2.1
  have hts := S.2.2.2.2
  intro M V A H locs ls hLI hH hM hS hl
  have hkx : mK M x = 1 := F.2.2.2.2.2.1.1 _ _ _ _ hLI
  refine lv_aload_n hx hb dL_law_533 rfl (lv_at hl 1 rfl) ?_
  refine lv_aload_n hx hb dL_law_534 rfl (lv_at hl 0 rfl) ?_
  refine lv_iload_n hx hb dL_law_535 rfl (lv_at hl 3 rfl) ?_
  refine lv_iconst (v := 1) hx hb dL_law_536 (by decide) ?_
  refine lv_iadd hx hb dL_law_537 ?_
  refine va_sld hx hb F.2.2.2.1.1 F.2.2.2.1.2 (lAL_b F) hS (lw_vp1 hi hL) dL_law_538 ?_
  refine lv_aload_n hx hb dL_law_539 rfl (lv_at hl 0 rfl) ?_
  refine lv_iload_n hx hb dL_law_540 rfl (lv_at hl 3 rfl) ?_
  refine lv_iconst (v := 2) hx hb dL_law_541 (by decide) ?_
  refine lv_iadd hx hb dL_law_542 ?_
  refine va_sld hx hb F.2.2.2.1.1 F.2.2.2.1.2 (lAL_b F) hS (lw_vp2 hi hL) dL_law_543 ?_
  have hw := F.2.2.2.2.2.1.2.2.2.2.2.2.2.2.2.2.2.2.2.2.2.2.2.2.1 _ M V A (xs (nI (5 * i) + 1).toNatClampNeg) (xs (nI (5 * i) + 2).toNatClampNeg) hi64 hLI
  refine lx_calli (As := [.int (xs (nI (5 * i) + 1).toNatClampNeg), .int (xs (nI (5 * i) + 2).toNatClampNeg)]) (mc := 0) (ms := 0) S F hH hM hS (m0_state l g (lAD s gm) M x (xs (nI (5 * i) + 1).toNatClampNeg) (xs (nI (5 * i) + 2).toNatClampNeg) _ hkx hw) (cwV 2 hts (lw_V q734 q735 q736 q54 q737) rfl rfl rfl (by decide +kernel) ⟨Nat.le_of_ble_eq_true rfl, Nat.le_of_ble_eq_true rfl⟩) hkx rfl hl.1 rfl (lv_room (Nat.le_of_ble_eq_true rfl)) dL_law_544 ⟨by show _ ≤ 603072; omega, by show _ ≤ 7202922; omega⟩ (fun r1 M1 H locs hw hH hM hS => ?_)
  refine lv_aload_n hx hb dL_law_547 rfl (lv_at hl 2 rfl) ?_
  refine lv_aload_n hx hb dL_law_548 rfl (lv_at hl 0 rfl) ?_
  refine lv_iload_n hx hb dL_law_549 rfl (lv_at hl 3 rfl) ?_
  refine lv_iconst (v := 1) hx hb dL_law_550 (by decide) ?_
  refine lv_iadd hx hb dL_law_551 ?_
  refine va_sld hx hb F.2.2.2.1.1 F.2.2.2.1.2 (lAL_b F) hS (lw_vp1 hi hL) dL_law_552 ?_
  refine lv_aload_n hx hb dL_law_553 rfl (lv_at hl 0 rfl) ?_
  refine lv_iload_n hx hb dL_law_554 rfl (lv_at hl 3 rfl) ?_
  refine lv_iconst (v := 2) hx hb dL_law_555 (by decide) ?_
  refine lv_iadd hx hb dL_law_556 ?_
  refine va_sld hx hb F.2.2.2.1.1 F.2.2.2.1.2 (lAL_b F) hS (lw_vp2 hi hL) dL_law_557 ?_
  refine ly_calli (As := [.int (xs (nI (5 * i) + 1).toNatClampNeg), .int (xs (nI (5 * i) + 2).toNatClampNeg)]) S F hH hM hS (m9_state l gm V A (xs (nI (5 * i) + 1).toNatClampNeg) (xs (nI (5 * i) + 2).toNatClampNeg) _ F.2.2.1.2 hw) (cwV 2 hts (lw_V q1130 q1131 q1132 q64 q1133) rfl rfl rfl (by decide +kernel) ⟨Nat.le_of_ble_eq_true rfl, Nat.le_of_ble_eq_true rfl⟩) rfl hl.1 rfl (lv_room (Nat.le_of_ble_eq_true rfl)) dL_law_558 ⟨by show _ ≤ 603072; omega, by show _ ≤ 7202922; omega⟩ (fun r2 V1 A1 H locs kz hw hH hM hS => ?_)
  refine lv_icmp_eq (tgt := 698) hx hb dL_law_561 (by decide) (fun _ => ?_) (fun cf => absurd hw.1 cf)
  refine W.widen (k := cl + 20) (n := sl + 405) (by omega) (by omega) ?_
  exact hk _ _ _ _ _ _ (F.2.2.2.2.2.1.2.1 _ kz _ _ _ hw.2) hH hM hS hl
set_option maxHeartbeats 4000000 in
set_option maxRecDepth 100000 in
theorem lc_kept {p : Program} {l : Launch} {e : Env} {s : State} {m : MethodId} {below : List Frame} {meth : Method} {c : Code} {g : CG} {gm : MG} {b L x : Nat} {xs : Nat → Int32} {LI : Nat → Mm → VV → AA → Prop} (S : CallFix p m c cL_law 4 s #[Value.ref b] lw_all R_law) (F : lawF s g gm b L x xs LI meth) (hl0 : l.stackTraces = false) (hL : L ≤ 320) (i cl sl : Nat) (hi : 5 * i + 5 ≤ L) (hi64 : i < 64) (hcl : cl + 20 ≤ 603072) (hsl : sl + 405 ≤ 7202922) (hk : ∀ (M : Mm) (V : VV) (A : AA) (H : Heap) (locs : List Loc) (ls : Array Slot), LI (i + 1) M V A → HC g (lAD s gm) M H → HM gm V A H → va_S (lAL s) s.heap H locs → lv_has ls 4 [(0, .ref b), (1, .ref x), (2, .ref (mh gm)), (3, .int (nI (5 * i)))] → W p l e room_1 s m #[Value.ref b] below meth c H locs (cl + 20) (sl + 405) (lw_Z below #[Value.ref b] s) (F0 m 698 ls [])) : ∀ (M : Mm) (V : VV) (A : AA) (H : Heap) (locs : List Loc) (ls : Array Slot), LI (i) M V A → HC g (lAD s gm) M H → HM gm V A H → va_S (lAL s) s.heap H locs → lv_has ls 4 [(0, .ref b), (1, .ref x), (2, .ref (mh gm)), (3, .int (nI (5 * i)))] → W p l e room_1 s m #[Value.ref b] below meth c H locs (cl) (sl) (lw_Z below #[Value.ref b] s) (F0 m 566 ls []) := by
  have hx := S.1
  have hb := S.2.1
  have hown := S.2.2.2.1
  have hts := S.2.2.2.2
  intro M V A H locs ls hLI hH hM hS hl
  have hkx : mK M x = 1 := F.2.2.2.2.2.1.1 _ _ _ _ hLI
  refine lv_aload_n hx hb dL_law_566 rfl (lv_at hl 1 rfl) ?_
  refine lv_aload_n hx hb dL_law_567 rfl (lv_at hl 0 rfl) ?_
  refine lv_iload_n hx hb dL_law_568 rfl (lv_at hl 3 rfl) ?_
  refine lv_iconst (v := 1) hx hb dL_law_569 (by decide) ?_
  refine lv_iadd hx hb dL_law_570 ?_
  refine va_sld hx hb F.2.2.2.1.1 F.2.2.2.1.2 (lAL_b F) hS (lw_vp1 hi hL) dL_law_571 ?_
  refine lv_aload_n hx hb dL_law_572 rfl (lv_at hl 0 rfl) ?_
  refine lv_iload_n hx hb dL_law_573 rfl (lv_at hl 3 rfl) ?_
  refine lv_iconst (v := 2) hx hb dL_law_574 (by decide) ?_
  refine lv_iadd hx hb dL_law_575 ?_
  refine va_sld hx hb F.2.2.2.1.1 F.2.2.2.1.2 (lAL_b F) hS (lw_vp2 hi hL) dL_law_576 ?_
  have hw := F.2.2.2.2.2.1.2.2.2.2.2.2.2.2.2.2.2.2.2.2.2.2.2.2.2.1 _ M V A (xs (nI (5 * i) + 1).toNatClampNeg) (xs (nI (5 * i) + 2).toNatClampNeg) hi64 hLI
  refine lx_calli (As := [.int (xs (nI (5 * i) + 1).toNatClampNeg), .int (xs (nI (5 * i) + 2).toNatClampNeg)]) (mc := 0) (ms := 0) S F hH hM hS (m0_kept l g (lAD s gm) M x (xs (nI (5 * i) + 1).toNatClampNeg) (xs (nI (5 * i) + 2).toNatClampNeg) _ hkx hw) (cwV 2 hts (lw_V q748 q749 q750 q54 q751) rfl rfl rfl (by decide +kernel) ⟨Nat.le_of_ble_eq_true rfl, Nat.le_of_ble_eq_true rfl⟩) hkx rfl hl.1 rfl (lv_room (Nat.le_of_ble_eq_true rfl)) dL_law_577 ⟨by show _ ≤ 603072; omega, by show _ ≤ 7202922; omega⟩ (fun r1 M1 H locs hw hH hM hS => ?_)
  refine lv_aload_n hx hb dL_law_580 rfl (lv_at hl 2 rfl) ?_
  refine lv_aload_n hx hb dL_law_581 rfl (lv_at hl 0 rfl) ?_
  refine lv_iload_n hx hb dL_law_582 rfl (lv_at hl 3 rfl) ?_
  refine lv_iconst (v := 1) hx hb dL_law_583 (by decide) ?_
  refine lv_iadd hx hb dL_law_584 ?_
  refine va_sld hx hb F.2.2.2.1.1 F.2.2.2.1.2 (lAL_b F) hS (lw_vp1 hi hL) dL_law_585 ?_
  refine lv_aload_n hx hb dL_law_586 rfl (lv_at hl 0 rfl) ?_
  refine lv_iload_n hx hb dL_law_587 rfl (lv_at hl 3 rfl) ?_
  refine lv_iconst (v := 2) hx hb dL_law_588 (by decide) ?_
  refine lv_iadd hx hb dL_law_589 ?_
  refine va_sld hx hb F.2.2.2.1.1 F.2.2.2.1.2 (lAL_b F) hS (lw_vp2 hi hL) dL_law_590 ?_
  refine ly_calli (As := [.int (xs (nI (5 * i) + 1).toNatClampNeg), .int (xs (nI (5 * i) + 2).toNatClampNeg)]) S F hH hM hS (m9_kept l gm V A (xs (nI (5 * i) + 1).toNatClampNeg) (xs (nI (5 * i) + 2).toNatClampNeg) _ F.2.2.1.2 hw) (cwV 2 hts (lw_V q1134 q1135 q1136 q64 q1137) rfl rfl rfl (by decide +kernel) ⟨Nat.le_of_ble_eq_true rfl, Nat.le_of_ble_eq_true rfl⟩) rfl hl.1 rfl (lv_room (Nat.le_of_ble_eq_true rfl)) dL_law_591 ⟨by show _ ≤ 603072; omega, by show _ ≤ 7202922; omega⟩ (fun r2 V1 A1 H locs kz hw hH hM hS => ?_)
  refine lv_icmp_eq (tgt := 698) hx hb dL_law_594 (by decide) (fun _ => ?_) (fun cf => absurd hw.1 cf)
  refine W.widen (k := cl + 20) (n := sl + 405) (by omega) (by omega) ?_
  exact hk _ _ _ _ _ _ (F.2.2.2.2.2.1.2.1 _ kz _ _ _ hw.2) hH hM hS hl
set_option maxHeartbeats 4000000 in
set_option maxRecDepth 100000 in
theorem lc_guess_2 {p : Program} {l : Launch} {e : Env} {s : State} {m : MethodId} {below : List Frame} {meth : Method} {c : Code} {g : CG} {gm : MG} {b L x : Nat} {xs : Nat → Int32} {LI : Nat → Mm → VV → AA → Prop} (S : CallFix p m c cL_law 4 s #[Value.ref b] lw_all R_law) (F : lawF s g gm b L x xs LI meth) (hl0 : l.stackTraces = false) (hL : L ≤ 320) (i cl sl : Nat) (hi : 5 * i + 5 ≤ L) (hi64 : i < 64) (hcl : cl + 20 ≤ 603072) (hsl : sl + 405 ≤ 7202922) (hk : ∀ (M : Mm) (V : VV) (A : AA) (H : Heap) (locs : List Loc) (ls : Array Slot), LI (i + 1) M V A → HC g (lAD s gm) M H → HM gm V A H → va_S (lAL s) s.heap H locs → lv_has ls 4 [(0, .ref b), (1, .ref x), (2, .ref (mh gm)), (3, .int (nI (5 * i)))] → W p l e room_1 s m #[Value.ref b] below meth c H locs (cl + 20) (sl + 405) (lw_Z below #[Value.ref b] s) (F0 m 698 ls [])) : ∀ (M : Mm) (V : VV) (A : AA) (H : Heap) (locs : List Loc) (ls : Array Slot), LI (i) M V A → HC g (lAD s gm) M H → HM gm V A H → va_S (lAL s) s.heap H locs → lv_has ls 4 [(0, .ref b), (1, .ref x), (2, .ref (mh gm)), (3, .int (nI (5 * i)))] → W p l e room_1 s m #[Value.ref b] below meth c H locs (cl) (sl) (lw_Z below #[Value.ref b] s) (F0 m 599 ls []) := by
  have hx := S.1
  have hb := S.2.1
  have hown := S.2.2.2.1
  have hts := S.2.2.2.2
  intro M V A H locs ls hLI hH hM hS hl
  have hkx : mK M x = 1 := F.2.2.2.2.2.1.1 _ _ _ _ hLI
  refine lv_aload_n hx hb dL_law_599 rfl (lv_at hl 1 rfl) ?_
  refine lv_aload_n hx hb dL_law_600 rfl (lv_at hl 0 rfl) ?_
  refine lv_iload_n hx hb dL_law_601 rfl (lv_at hl 3 rfl) ?_
  refine lv_iconst (v := 1) hx hb dL_law_602 (by decide) ?_
  refine lv_iadd hx hb dL_law_603 ?_
  refine va_sld hx hb F.2.2.2.1.1 F.2.2.2.1.2 (lAL_b F) hS (lw_vp1 hi hL) dL_law_604 ?_
  refine lv_aload_n hx hb dL_law_605 rfl (lv_at hl 0 rfl) ?_
  refine lv_iload_n hx hb dL_law_606 rfl (lv_at hl 3 rfl) ?_
  refine lv_iconst (v := 2) hx hb dL_law_607 (by decide) ?_
  refine lv_iadd hx hb dL_law_608 ?_
  refine va_sld hx hb F.2.2.2.1.1 F.2.2.2.1.2 (lAL_b F) hS (lw_vp2 hi hL) dL_law_609 ?_
  have hw := F.2.2.2.2.2.1.2.2.2.2.2.2.2.2.2.2.2.2.2.2.2.2.2.2.2.2.1 _ M V A (xs (nI (5 * i) + 1).toNatClampNeg) (xs (nI (5 * i) + 2).toNatClampNeg) hi64 hLI
  refine lx_calli (As := [.int (xs (nI (5 * i) + 1).toNatClampNeg), .int (xs (nI (5 * i) + 2).toNatClampNeg)]) (mc := 0) (ms := 0) S F hH hM hS (m0_guess_2 l g (lAD s gm) M x (xs (nI (5 * i) + 1).toNatClampNeg) (xs (nI (5 * i) + 2).toNatClampNeg) _ hkx hw) (cwV 2 hts (lw_V q752 q753 q754 q54 q755) rfl rfl rfl (by decide +kernel) ⟨Nat.le_of_ble_eq_true rfl, Nat.le_of_ble_eq_true rfl⟩) hkx rfl hl.1 rfl (lv_room (Nat.le_of_ble_eq_true rfl)) dL_law_610 ⟨by show _ ≤ 603072; omega, by show _ ≤ 7202922; omega⟩ (fun r1 M1 H locs hw hH hM hS => ?_)
  refine lv_aload_n hx hb dL_law_613 rfl (lv_at hl 2 rfl) ?_
  refine lv_aload_n hx hb dL_law_614 rfl (lv_at hl 0 rfl) ?_
  refine lv_iload_n hx hb dL_law_615 rfl (lv_at hl 3 rfl) ?_
  refine lv_iconst (v := 1) hx hb dL_law_616 (by decide) ?_
  refine lv_iadd hx hb dL_law_617 ?_
  refine va_sld hx hb F.2.2.2.1.1 F.2.2.2.1.2 (lAL_b F) hS (lw_vp1 hi hL) dL_law_618 ?_
  refine lv_aload_n hx hb dL_law_619 rfl (lv_at hl 0 rfl) ?_
  refine lv_iload_n hx hb dL_law_620 rfl (lv_at hl 3 rfl) ?_
  refine lv_iconst (v := 2) hx hb dL_law_621 (by decide) ?_
  refine lv_iadd hx hb dL_law_622 ?_
  refine va_sld hx hb F.2.2.2.1.1 F.2.2.2.1.2 (lAL_b F) hS (lw_vp2 hi hL) dL_law_623 ?_
  refine ly_calli (As := [.int (xs (nI (5 * i) + 1).toNatClampNeg), .int (xs (nI (5 * i) + 2).toNatClampNeg)]) S F hH hM hS (m9_guess_2 l gm V A (xs (nI (5 * i) + 1).toNatClampNeg) (xs (nI (5 * i) + 2).toNatClampNeg) _ F.2.2.1.2 hw) (cwV 2 hts (lw_V q1138 q1139 q1140 q64 q1141) rfl rfl rfl (by decide +kernel) ⟨Nat.le_of_ble_eq_true rfl, Nat.le_of_ble_eq_true rfl⟩) rfl hl.1 rfl (lv_room (Nat.le_of_ble_eq_true rfl)) dL_law_624 ⟨by show _ ≤ 603072; omega, by show _ ≤ 7202922; omega⟩ (fun r2 V1 A1 H locs kz hw hH hM hS => ?_)
  refine lv_icmp_eq (tgt := 698) hx hb dL_law_627 (by decide) (fun _ => ?_) (fun cf => absurd hw.1 cf)
  refine W.widen (k := cl + 20) (n := sl + 405) (by omega) (by omega) ?_
  exact hk _ _ _ _ _ _ (F.2.2.2.2.2.1.2.1 _ kz _ _ _ hw.2) hH hM hS hl
set_option maxHeartbeats 4000000 in
set_option maxRecDepth 100000 in
theorem lc_letter {p : Program} {l : Launch} {e : Env} {s : State} {m : MethodId} {below : List Frame} {meth : Method} {c : Code} {g : CG} {gm : MG} {b L x : Nat} {xs : Nat → Int32} {LI : Nat → Mm → VV → AA → Prop} (S : CallFix p m c cL_law 4 s #[Value.ref b] lw_all R_law) (F : lawF s g gm b L x xs LI meth) (hl0 : l.stackTraces = false) (hL : L ≤ 320) (i cl sl : Nat) (hi : 5 * i + 5 ≤ L) (hi64 : i < 64) (hcl : cl + 20 ≤ 603072) (hsl : sl + 405 ≤ 7202922) (hk : ∀ (M : Mm) (V : VV) (A : AA) (H : Heap) (locs : List Loc) (ls : Array Slot), LI (i + 1) M V A → HC g (lAD s gm) M H → HM gm V A H → va_S (lAL s) s.heap H locs → lv_has ls 4 [(0, .ref b), (1, .ref x), (2, .ref (mh gm)), (3, .int (nI (5 * i)))] → W p l e room_1 s m #[Value.ref b] below meth c H locs (cl + 20) (sl + 405) (lw_Z below #[Value.ref b] s) (F0 m 698 ls [])) : ∀ (M : Mm) (V : VV) (A : AA) (H : Heap) (locs : List Loc) (ls : Array Slot), LI (i) M V A → HC g (lAD s gm) M H → HM gm V A H → va_S (lAL s) s.heap H locs → lv_has ls 4 [(0, .ref b), (1, .ref x), (2, .ref (mh gm)), (3, .int (nI (5 * i)))] → W p l e room_1 s m #[Value.ref b] below meth c H locs (cl) (sl) (lw_Z below #[Value.ref b] s) (F0 m 632 ls []) := by
  have hx := S.1
  have hb := S.2.1
  have hown := S.2.2.2.1
  have hts := S.2.2.2.2
  intro M V A H locs ls hLI hH hM hS hl
  have hkx : mK M x = 1 := F.2.2.2.2.2.1.1 _ _ _ _ hLI
  refine lv_aload_n hx hb dL_law_632 rfl (lv_at hl 1 rfl) ?_
  refine lv_aload_n hx hb dL_law_633 rfl (lv_at hl 0 rfl) ?_
  refine lv_iload_n hx hb dL_law_634 rfl (lv_at hl 3 rfl) ?_
  refine lv_iconst (v := 1) hx hb dL_law_635 (by decide) ?_
  refine lv_iadd hx hb dL_law_636 ?_
  refine va_sld hx hb F.2.2.2.1.1 F.2.2.2.1.2 (lAL_b F) hS (lw_vp1 hi hL) dL_law_637 ?_
  refine lv_aload_n hx hb dL_law_638 rfl (lv_at hl 0 rfl) ?_
  refine lv_iload_n hx hb dL_law_639 rfl (lv_at hl 3 rfl) ?_
  refine lv_iconst (v := 2) hx hb dL_law_640 (by decide) ?_
  refine lv_iadd hx hb dL_law_641 ?_
  refine va_sld hx hb F.2.2.2.1.1 F.2.2.2.1.2 (lAL_b F) hS (lw_vp2 hi hL) dL_law_642 ?_
  refine lv_aload_n hx hb dL_law_643 rfl (lv_at hl 0 rfl) ?_
  refine lv_iload_n hx hb dL_law_644 rfl (lv_at hl 3 rfl) ?_
  refine lv_iconst (v := 3) hx hb dL_law_645 (by decide) ?_
  refine lv_iadd hx hb dL_law_646 ?_
  refine va_sld hx hb F.2.2.2.1.1 F.2.2.2.1.2 (lAL_b F) hS (lw_vp3 hi hL) dL_law_647 ?_
  have hw := F.2.2.2.2.2.1.2.2.2.2.2.2.2.2.2.2.2.2.2.2.2.2.2.2.2.2.2.1 _ M V A (xs (nI (5 * i) + 1).toNatClampNeg) (xs (nI (5 * i) + 2).toNatClampNeg) (xs (nI (5 * i) + 3).toNatClampNeg) hi64 hLI
  refine lx_calli (As := [.int (xs (nI (5 * i) + 1).toNatClampNeg), .int (xs (nI (5 * i) + 2).toNatClampNeg), .int (xs (nI (5 * i) + 3).toNatClampNeg)]) (mc := 0) (ms := 0) S F hH hM hS (m0_letter l g (lAD s gm) M x (xs (nI (5 * i) + 1).toNatClampNeg) (xs (nI (5 * i) + 2).toNatClampNeg) (xs (nI (5 * i) + 3).toNatClampNeg) _ hkx hw) (cwV 3 hts (lw_V q756 q757 q758 q54 q759) rfl rfl rfl (by decide +kernel) ⟨Nat.le_of_ble_eq_true rfl, Nat.le_of_ble_eq_true rfl⟩) hkx rfl hl.1 rfl (lv_room (Nat.le_of_ble_eq_true rfl)) dL_law_648 ⟨by show _ ≤ 603072; omega, by show _ ≤ 7202922; omega⟩ (fun r1 M1 H locs hw hH hM hS => ?_)
  refine lv_aload_n hx hb dL_law_651 rfl (lv_at hl 2 rfl) ?_
  refine lv_aload_n hx hb dL_law_652 rfl (lv_at hl 0 rfl) ?_
  refine lv_iload_n hx hb dL_law_653 rfl (lv_at hl 3 rfl) ?_
  refine lv_iconst (v := 1) hx hb dL_law_654 (by decide) ?_
  refine lv_iadd hx hb dL_law_655 ?_
  refine va_sld hx hb F.2.2.2.1.1 F.2.2.2.1.2 (lAL_b F) hS (lw_vp1 hi hL) dL_law_656 ?_
  refine lv_aload_n hx hb dL_law_657 rfl (lv_at hl 0 rfl) ?_
  refine lv_iload_n hx hb dL_law_658 rfl (lv_at hl 3 rfl) ?_
  refine lv_iconst (v := 2) hx hb dL_law_659 (by decide) ?_
  refine lv_iadd hx hb dL_law_660 ?_
  refine va_sld hx hb F.2.2.2.1.1 F.2.2.2.1.2 (lAL_b F) hS (lw_vp2 hi hL) dL_law_661 ?_
  refine lv_aload_n hx hb dL_law_662 rfl (lv_at hl 0 rfl) ?_
  refine lv_iload_n hx hb dL_law_663 rfl (lv_at hl 3 rfl) ?_
  refine lv_iconst (v := 3) hx hb dL_law_664 (by decide) ?_
  refine lv_iadd hx hb dL_law_665 ?_
  refine va_sld hx hb F.2.2.2.1.1 F.2.2.2.1.2 (lAL_b F) hS (lw_vp3 hi hL) dL_law_666 ?_
  refine ly_calli (As := [.int (xs (nI (5 * i) + 1).toNatClampNeg), .int (xs (nI (5 * i) + 2).toNatClampNeg), .int (xs (nI (5 * i) + 3).toNatClampNeg)]) S F hH hM hS (m9_letter l gm V A (xs (nI (5 * i) + 1).toNatClampNeg) (xs (nI (5 * i) + 2).toNatClampNeg) (xs (nI (5 * i) + 3).toNatClampNeg) _ F.2.2.1.2 hw) (cwV 3 hts (lw_V q1142 q1143 q1144 q64 q1145) rfl rfl rfl (by decide +kernel) ⟨Nat.le_of_ble_eq_true rfl, Nat.le_of_ble_eq_true rfl⟩) rfl hl.1 rfl (lv_room (Nat.le_of_ble_eq_true rfl)) dL_law_667 ⟨by show _ ≤ 603072; omega, by show _ ≤ 7202922; omega⟩ (fun r2 V1 A1 H locs kz hw hH hM hS => ?_)
  refine lv_icmp_eq (tgt := 698) hx hb dL_law_670 (by decide) (fun _ => ?_) (fun cf => absurd hw.1 cf)
  refine W.widen (k := cl + 20) (n := sl + 405) (by omega) (by omega) ?_
  exact hk _ _ _ _ _ _ (F.2.2.2.2.2.1.2.1 _ kz _ _ _ hw.2) hH hM hS hl
set_option maxHeartbeats 4000000 in
set_option maxRecDepth 100000 in
theorem lc_count {p : Program} {l : Launch} {e : Env} {s : State} {m : MethodId} {below : List Frame} {meth : Method} {c : Code} {g : CG} {gm : MG} {b L x : Nat} {xs : Nat → Int32} {LI : Nat → Mm → VV → AA → Prop} (S : CallFix p m c cL_law 4 s #[Value.ref b] lw_all R_law) (F : lawF s g gm b L x xs LI meth) (hl0 : l.stackTraces = false) (hL : L ≤ 320) (i cl sl : Nat) (hi : 5 * i + 5 ≤ L) (hi64 : i < 64) (hcl : cl + 20 ≤ 603072) (hsl : sl + 405 ≤ 7202922) (hk : ∀ (M : Mm) (V : VV) (A : AA) (H : Heap) (locs : List Loc) (ls : Array Slot), LI (i + 1) M V A → HC g (lAD s gm) M H → HM gm V A H → va_S (lAL s) s.heap H locs → lv_has ls 4 [(0, .ref b), (1, .ref x), (2, .ref (mh gm)), (3, .int (nI (5 * i)))] → W p l e room_1 s m #[Value.ref b] below meth c H locs (cl + 20) (sl + 405) (lw_Z below #[Value.ref b] s) (F0 m 698 ls [])) : ∀ (M : Mm) (V : VV) (A : AA) (H : Heap) (locs : List Loc) (ls : Array Slot), LI (i) M V A → HC g (lAD s gm) M H → HM gm V A H → va_S (lAL s) s.heap H locs → lv_has ls 4 [(0, .ref b), (1, .ref x), (2, .ref (mh gm)), (3, .int (nI (5 * i)))] → W p l e room_1 s m #[Value.ref b] below meth c H locs (cl) (sl) (lw_Z below #[Value.ref b] s) (F0 m 675 ls []) := by
  have hx := S.1
  have hb := S.2.1
  have hown := S.2.2.2.1
  have hts := S.2.2.2.2
  intro M V A H locs ls hLI hH hM hS hl
  have hkx : mK M x = 1 := F.2.2.2.2.2.1.1 _ _ _ _ hLI
  refine lv_aload_n hx hb dL_law_675 rfl (lv_at hl 1 rfl) ?_
  refine lv_aload_n hx hb dL_law_676 rfl (lv_at hl 0 rfl) ?_
  refine lv_iload_n hx hb dL_law_677 rfl (lv_at hl 3 rfl) ?_
  refine lv_iconst (v := 1) hx hb dL_law_678 (by decide) ?_
  refine lv_iadd hx hb dL_law_679 ?_
  refine va_sld hx hb F.2.2.2.1.1 F.2.2.2.1.2 (lAL_b F) hS (lw_vp1 hi hL) dL_law_680 ?_
  have hw := F.2.2.2.2.2.1.2.2.2.2.2.2.2.2.2.2.2.2.2.2.2.2.2.2.2.2.2.2 _ M V A (xs (nI (5 * i) + 1).toNatClampNeg) hi64 hLI
  refine lx_calli (As := [.int (xs (nI (5 * i) + 1).toNatClampNeg)]) (mc := 0) (ms := 0) S F hH hM hS (m0_count l g (lAD s gm) M x (xs (nI (5 * i) + 1).toNatClampNeg) _ hkx hw) (cwV 1 hts (lw_V q760 q761 q762 q54 q763) rfl rfl rfl (by decide +kernel) ⟨Nat.le_of_ble_eq_true rfl, Nat.le_of_ble_eq_true rfl⟩) hkx rfl hl.1 rfl (lv_room (Nat.le_of_ble_eq_true rfl)) dL_law_681 ⟨by show _ ≤ 603072; omega, by show _ ≤ 7202922; omega⟩ (fun r1 M1 H locs hw hH hM hS => ?_)
  refine lv_aload_n hx hb dL_law_684 rfl (lv_at hl 2 rfl) ?_
  refine lv_aload_n hx hb dL_law_685 rfl (lv_at hl 0 rfl) ?_
  refine lv_iload_n hx hb dL_law_686 rfl (lv_at hl 3 rfl) ?_
  refine lv_iconst (v := 1) hx hb dL_law_687 (by decide) ?_
  refine lv_iadd hx hb dL_law_688 ?_
  refine va_sld hx hb F.2.2.2.1.1 F.2.2.2.1.2 (lAL_b F) hS (lw_vp1 hi hL) dL_law_689 ?_
  refine ly_calli (As := [.int (xs (nI (5 * i) + 1).toNatClampNeg)]) S F hH hM hS (m9_count l gm V A (xs (nI (5 * i) + 1).toNatClampNeg) _ F.2.2.1.2 hw) (cwV 1 hts (lw_V q1146 q1147 q1148 q64 q1149) rfl rfl rfl (by decide +kernel) ⟨Nat.le_of_ble_eq_true rfl, Nat.le_of_ble_eq_true rfl⟩) rfl hl.1 rfl (lv_room (Nat.le_of_ble_eq_true rfl)) dL_law_690 ⟨by show _ ≤ 603072; omega, by show _ ≤ 7202922; omega⟩ (fun r2 V1 A1 H locs kz hw hH hM hS => ?_)
  refine lv_icmp_eq (tgt := 698) hx hb dL_law_693 (by decide) (fun _ => ?_) (fun cf => absurd hw.1 cf)
  refine W.widen (k := cl + 20) (n := sl + 405) (by omega) (by omega) ?_
  exact hk _ _ _ _ _ _ (F.2.2.2.2.2.1.2.1 _ kz _ _ _ hw.2) hH hM hS hl
set_option maxHeartbeats 4000000 in
set_option maxRecDepth 100000 in
theorem law_loop {p : Program} {l : Launch} {e : Env} {s : State} {m : MethodId} {below : List Frame} {meth : Method} {c : Code} {g : CG} {gm : MG} {b L x : Nat} {xs : Nat → Int32} {LI : Nat → Mm → VV → AA → Prop} (S : CallFix p m c cL_law 4 s #[Value.ref b] lw_all R_law) (F : lawF s g gm b L x xs LI meth) (hl0 : l.stackTraces = false) (hL : L ≤ 320) : ∀ n i : Nat, i + n = 66 → 5 * i ≤ 320 → ∀ (M : Mm) (V : VV) (A : AA) (H : Heap) (locs : List Loc) (ls : Array Slot), LI (i) M V A → HC g (lAD s gm) M H → HM gm V A H → va_S (lAL s) s.heap H locs → lv_has ls 4 [(0, .ref b), (1, .ref x), (2, .ref (mh gm)), (3, .int (nI (5 * i)))] → W p l e room_1 s m #[Value.ref b] below meth c H locs (10000 + 20 * i) (500000 + 405 * i) (lw_Z below #[Value.ref b] s) (F0 m 18 ls []) := by
  have hx := S.1
  have hb := S.2.1
  have hown := S.2.2.2.1
  have hts := S.2.2.2.2
  intro n
  induction n with
  | zero =>
    intro i h1 h2
    exact absurd h2 (by omega)
  | succ n ih =>
    intro i h1 hi1 M V A H locs ls hLI hH hM hS hl
    refine lv_iload_n hx hb dL_law_18 rfl (lv_at hl 3 rfl) ?_
    refine lv_aload_n hx hb dL_law_19 rfl (lv_at hl 0 rfl) ?_
    refine va_slen hx hb F.2.2.2.1.1 F.2.2.2.1.2 (lAL_b F) hS dL_law_20 ?_
    refine lv_iconst (v := 5) hx hb dL_law_21 (by decide) ?_
    refine lv_isub hx hb dL_law_22 ?_
    refine lv_icmp_gt (tgt := 704) hx hb dL_law_23 (by decide) (fun c1 => ?_) (fun c1 => ?_)
    · refine lv_iconst (v := 1) hx hb dL_law_704 (by decide) ?_
      refine va_forget (fun q hq => hS.2.2 q hq) ?_
      refine W.widen (k := 603072) (n := 7202922) (by omega) (by omega) ?_
      exact lw_ret hx hb F.2.2.2.2.2.2.1 F.2.2.2.2.2.2.2 dL_law_705
    · have hi : 5 * i + 5 ≤ L := lw_lt hL hi1 c1
      have hi64 : i < 64 := by omega
      have hk : ∀ (M : Mm) (V : VV) (A : AA) (H : Heap) (locs : List Loc) (ls : Array Slot), LI (i + 1) M V A → HC g (lAD s gm) M H → HM gm V A H → va_S (lAL s) s.heap H locs → lv_has ls 4 [(0, .ref b), (1, .ref x), (2, .ref (mh gm)), (3, .int (nI (5 * i)))] → W p l e room_1 s m #[Value.ref b] below meth c H locs (10000 + 20 * i + 20) (500000 + 405 * i + 405) (lw_Z below #[Value.ref b] s) (F0 m 698 ls []) := by
        intro M V A H locs ls hLI hH hM hS hl
        refine lv_iinc (v := nI (5 * (i + 1))) (lv' := [(3, .int (nI (5 * (i + 1)))), (0, .ref b), (1, .ref x), (2, .ref (mh gm))]) hx hb dL_law_698 hl (k := 3) rfl (lw_i5 i) (by decide) rfl (fun ls hl => ?_)
        refine lv_goto (tgt := 18) hx hb dL_law_701 (by decide) ?_
        refine W.widen (k := 10000 + 20 * (i + 1)) (n := 500000 + 405 * (i + 1)) (by omega) (by omega) ?_
        exact ih (i + 1) (by omega) (by omega) _ _ _ _ _ _ hLI hH hM hS (lv_sub hl [1, 2, 3, 0] rfl)
      refine lv_aload_n hx hb dL_law_26 rfl (lv_at hl 0 rfl) ?_
      refine lv_iload_n hx hb dL_law_27 rfl (lv_at hl 3 rfl) ?_
      refine va_sld hx hb F.2.2.2.1.1 F.2.2.2.1.2 (lAL_b F) hS (lw_vp0' hi hL) dL_law_28 ?_
      refine lv_bipush (v := 31) hx hb dL_law_29 (by decide) ?_
      refine lv_iand hx hb dL_law_31 ?_
      refine lv_topi (fun y ey => ?_)
      by_cases cs0 : y = 0
      · refine lv_tableIn (off := 96) (tgt := 128) hx hb dL_law_32 (by rw [cs0]; decide) (by rw [cs0]; decide) (by rw [cs0]; decide) (by decide) ?_
        exact lc_open S F hl0 hL i _ _ hi hi64 (by omega) (by omega) hk _ _ _ _ _ _ hLI hH hM hS hl
      by_cases cs1 : y = 1
      · refine lv_tableIn (off := 139) (tgt := 171) hx hb dL_law_32 (by rw [cs1]; decide) (by rw [cs1]; decide) (by rw [cs1]; decide) (by decide) ?_
        exact lc_program S F hl0 hL i _ _ hi hi64 (by omega) (by omega) hk _ _ _ _ _ _ hLI hH hM hS hl
      by_cases cs2 : y = 2
      · refine lv_tableIn (off := 162) (tgt := 194) hx hb dL_law_32 (by rw [cs2]; decide) (by rw [cs2]; decide) (by rw [cs2]; decide) (by decide) ?_
        exact lc_key S F hl0 hL i _ _ hi hi64 (by omega) (by omega) hk _ _ _ _ _ _ hLI hH hM hS hl
      by_cases cs3 : y = 3
      · refine lv_tableIn (off := 185) (tgt := 217) hx hb dL_law_32 (by rw [cs3]; decide) (by rw [cs3]; decide) (by rw [cs3]; decide) (by decide) ?_
        exact lc_write S F hl0 hL i _ _ hi hi64 (by omega) (by omega) hk _ _ _ _ _ _ hLI hH hM hS hl
      by_cases cs4 : y = 4
      · refine lv_tableIn (off := 208) (tgt := 240) hx hb dL_law_32 (by rw [cs4]; decide) (by rw [cs4]; decide) (by rw [cs4]; decide) (by decide) ?_
        exact lc_move S F hl0 hL i _ _ hi hi64 (by omega) (by omega) hk _ _ _ _ _ _ hLI hH hM hS hl
      by_cases cs5 : y = 5
      · refine lv_tableIn (off := 241) (tgt := 273) hx hb dL_law_32 (by rw [cs5]; decide) (by rw [cs5]; decide) (by rw [cs5]; decide) (by decide) ?_
        exact lc_wipe S F hl0 hL i _ _ hi hi64 (by omega) (by omega) hk _ _ _ _ _ _ hLI hH hM hS hl
      by_cases cs6 : y = 6
      · refine lv_tableIn (off := 264) (tgt := 296) hx hb dL_law_32 (by rw [cs6]; decide) (by rw [cs6]; decide) (by rw [cs6]; decide) (by decide) ?_
        exact lc_scroll S F hl0 hL i _ _ hi hi64 (by omega) (by omega) hk _ _ _ _ _ _ hLI hH hM hS hl
      by_cases cs7 : y = 7
      · refine lv_tableIn (off := 287) (tgt := 319) hx hb dL_law_32 (by rw [cs7]; decide) (by rw [cs7]; decide) (by rw [cs7]; decide) (by decide) ?_
        exact lc_pen S F hl0 hL i _ _ hi hi64 (by omega) (by omega) hk _ _ _ _ _ _ hLI hH hM hS hl
      by_cases cs8 : y = 8
      · refine lv_tableIn (off := 310) (tgt := 342) hx hb dL_law_32 (by rw [cs8]; decide) (by rw [cs8]; decide) (by rw [cs8]; decide) (by decide) ?_
        exact lc_tick S F hl0 hL i _ _ hi hi64 (by omega) (by omega) hk _ _ _ _ _ _ hLI hH hM hS hl
      by_cases cs9 : y = 9
      · refine lv_tableIn (off := 323) (tgt := 355) hx hb dL_law_32 (by rw [cs9]; decide) (by rw [cs9]; decide) (by rw [cs9]; decide) (by decide) ?_
        exact lc_round S F hl0 hL i _ _ hi hi64 (by omega) (by omega) hk _ _ _ _ _ _ hLI hH hM hS hl
      by_cases cs10 : y = 10
      · refine lv_tableIn (off := 336) (tgt := 368) hx hb dL_law_32 (by rw [cs10]; decide) (by rw [cs10]; decide) (by rw [cs10]; decide) (by decide) ?_
        exact lc_carry S F hl0 hL i _ _ hi hi64 (by omega) (by omega) hk _ _ _ _ _ _ hLI hH hM hS hl
      by_cases cs11 : y = 11
      · refine lv_tableIn (off := 389) (tgt := 421) hx hb dL_law_32 (by rw [cs11]; decide) (by rw [cs11]; decide) (by rw [cs11]; decide) (by decide) ?_
        exact lc_roam S F hl0 hL i _ _ hi hi64 (by omega) (by omega) hk _ _ _ _ _ _ hLI hH hM hS hl
      by_cases cs12 : y = 12
      · refine lv_tableIn (off := 402) (tgt := 434) hx hb dL_law_32 (by rw [cs12]; decide) (by rw [cs12]; decide) (by rw [cs12]; decide) (by decide) ?_
        exact lc_cell S F hl0 hL i _ _ hi hi64 (by omega) (by omega) hk _ _ _ _ _ _ hLI hH hM hS hl
      by_cases cs13 : y = 13
      · refine lv_tableIn (off := 455) (tgt := 487) hx hb dL_law_32 (by rw [cs13]; decide) (by rw [cs13]; decide) (by rw [cs13]; decide) (by decide) ?_
        exact lc_cursor S F hl0 hL i _ _ hi hi64 (by omega) (by omega) hk _ _ _ _ _ _ hLI hH hM hS hl
      by_cases cs14 : y = 14
      · refine lv_tableIn (off := 488) (tgt := 520) hx hb dL_law_32 (by rw [cs14]; decide) (by rw [cs14]; decide) (by rw [cs14]; decide) (by decide) ?_
        exact lc_alike S F hl0 hL i _ _ hi hi64 (by omega) (by omega) hk _ _ _ _ _ _ hLI hH hM hS hl
      by_cases cs15 : y = 15
      · refine lv_tableIn (off := 501) (tgt := 533) hx hb dL_law_32 (by rw [cs15]; decide) (by rw [cs15]; decide) (by rw [cs15]; decide) (by decide) ?_
        exact lc_state S F hl0 hL i _ _ hi hi64 (by omega) (by omega) hk _ _ _ _ _ _ hLI hH hM hS hl
      by_cases cs16 : y = 16
      · refine lv_tableIn (off := 534) (tgt := 566) hx hb dL_law_32 (by rw [cs16]; decide) (by rw [cs16]; decide) (by rw [cs16]; decide) (by decide) ?_
        exact lc_kept S F hl0 hL i _ _ hi hi64 (by omega) (by omega) hk _ _ _ _ _ _ hLI hH hM hS hl
      by_cases cs17 : y = 17
      · refine lv_tableIn (off := 567) (tgt := 599) hx hb dL_law_32 (by rw [cs17]; decide) (by rw [cs17]; decide) (by rw [cs17]; decide) (by decide) ?_
        exact lc_guess_2 S F hl0 hL i _ _ hi hi64 (by omega) (by omega) hk _ _ _ _ _ _ hLI hH hM hS hl
      by_cases cs18 : y = 18
      · refine lv_tableIn (off := 600) (tgt := 632) hx hb dL_law_32 (by rw [cs18]; decide) (by rw [cs18]; decide) (by rw [cs18]; decide) (by decide) ?_
        exact lc_letter S F hl0 hL i _ _ hi hi64 (by omega) (by omega) hk _ _ _ _ _ _ hLI hH hM hS hl
      by_cases cs19 : y = 19
      · refine lv_tableIn (off := 643) (tgt := 675) hx hb dL_law_32 (by rw [cs19]; decide) (by rw [cs19]; decide) (by rw [cs19]; decide) (by decide) ?_
        exact lc_count S F hl0 hL i _ _ hi hi64 (by omega) (by omega) hk _ _ _ _ _ _ hLI hH hM hS hl
      have ne0 := lv_neT (a := 0) cs0 rfl
      have ne1 := lv_neT (a := 1) cs1 rfl
      have ne2 := lv_neT (a := 2) cs2 rfl
      have ne3 := lv_neT (a := 3) cs3 rfl
      have ne4 := lv_neT (a := 4) cs4 rfl
      have ne5 := lv_neT (a := 5) cs5 rfl
      have ne6 := lv_neT (a := 6) cs6 rfl
      have ne7 := lv_neT (a := 7) cs7 rfl
      have ne8 := lv_neT (a := 8) cs8 rfl
      have ne9 := lv_neT (a := 9) cs9 rfl
      have ne10 := lv_neT (a := 10) cs10 rfl
      have ne11 := lv_neT (a := 11) cs11 rfl
      have ne12 := lv_neT (a := 12) cs12 rfl
      have ne13 := lv_neT (a := 13) cs13 rfl
      have ne14 := lv_neT (a := 14) cs14 rfl
      have ne15 := lv_neT (a := 15) cs15 rfl
      have ne16 := lv_neT (a := 16) cs16 rfl
      have ne17 := lv_neT (a := 17) cs17 rfl
      have ne18 := lv_neT (a := 18) cs18 rfl
      have ne19 := lv_neT (a := 19) cs19 rfl
      refine lv_tableOut (tgt := 698) hx hb dL_law_32 (by omega) (by decide) ?_
      refine W.widen (k := 10000 + 20 * i + 20) (n := 500000 + 405 * i + 405) (by omega) (by omega) ?_
      exact hk _ _ _ _ _ _ (F.2.2.2.2.2.1.2.2.1 _ _ _ _ hLI) hH hM hS hl
