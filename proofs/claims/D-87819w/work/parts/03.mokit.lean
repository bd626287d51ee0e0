/-! the reference's memory: its int fields V and its int arrays A, both by the field's number (TX9); rows for its instructions and calls -/
def mo_isA (k : Nat) : Bool := match k with
  | 0 => true | 1 => true | 2 => true | 3 => true | 4 => true | 5 => true | 20 => true | 29 => true | 30 => true | 31 => true | 32 => true | 33 => true | 40 => true | 41 => true | 42 => true | 43 => true | 44 => true | 45 => true
  | _ => false
def mo_len (k : Nat) : Nat := match k with
  | 0 => 13248 | 1 => 13248 | 2 => 69 | 3 => 69 | 4 => 69 | 5 => 69 | 20 => 1000 | 29 => 10 | 30 => 2 | 31 => 88000 | 32 => 80 | 33 => 1100
  | _ => 60
/-- what is fixed of a reference object: its class, its slots, the arrays' class, its address, its arrays' addresses -/
abbrev MG : Type := ClassId × (Nat → Nat) × ClassId × Nat × (Nat → Nat)
def mh (g : MG) : Nat := g.2.2.2.1
def ma (g : MG) (k : Nat) : Nat := g.2.2.2.2 k
abbrev VV : Type := Nat → Int32
abbrev AA : Type := Nat → Nat → Int32
def mo_fv (g : MG) (V : VV) (k : Nat) : Value := if mo_isA k = true then .ref (ma g k) else .int (V k)
def vu (V : VV) (k : Nat) (v : Int32) : VV := fun j => if j = k then v else V j
def au (A : AA) (k i : Nat) (v : Int32) : AA := fun j n => if j = k then (if n = i then v else A j n) else A j n
def KM (g : MG) (U : State) : Prop := u_Kn U RX9 TX9 46 g.1 g.2.1 ∧ ArrOfT U g.2.2.1 .int
theorem KM.moved {g : MG} {u U : State} (hvm : u.vm.Alike U.vm) (h : KM g u) : KM g U := ⟨u_Kn_moved hvm h.1, arrOfT_moved hvm h.2⟩
def HM (g : MG) (V : VV) (A : AA) (H : Heap) : Prop :=
  t_OB (mh g) g.1 46 g.2.1 H (mo_fv g V) ∧ ∀ k, mo_isA k = true → H[ma g k]? = some (arrV g.2.2.1 (mo_len k) (fun j => .int (A k j)))
/-- the reference's own cells -/
def HA (g : MG) : Nat → Prop := fun q => q = mh g ∨ ∃ k, mo_isA k = true ∧ q = ma g k
def HI (g : MG) : Prop := (∀ k, mo_isA k = true → ma g k ≠ mh g) ∧ ∀ j k, mo_isA j = true → mo_isA k = true → ma g j = ma g k → j = k
theorem HM.kept {g : MG} {V : VV} {A : AA} {H H1 : Heap} (h : HM g V A H) (hq : ∀ q, HA g q → H1[q]? = H[q]?) : HM g V A H1 :=
  ⟨h.1.kept (hq _ (Or.inl rfl)), fun k hk => by rw [hq _ (Or.inr ⟨k, hk, rfl⟩)]; exact h.2 k hk⟩
abbrev MPc (g : MG) (V : VV) (A : AA) (av : List Value) : Array Value → State → Prop := va_Pc av (fun U => KM g U ∧ HM g V A U.heap)
abbrev MQv (g : MG) (post : VV → AA → Prop) : Array Value → State → Outcome → State → Prop := va_Qv (S := VV × AA) (fun u => post u.1 u.2) (fun u t => HM g u.1 u.2 t.heap) (HA g)
abbrev MQi (g : MG) (post : Int32 → VV → AA → Prop) : Array Value → State → Outcome → State → Prop := va_Qi (S := VV × AA) (fun r u => post r u.1 u.2) (fun u t => HM g u.1 u.2 t.heap) (HA g)
theorem mo_blind {g : MG} {V : VV} {A : AA} {av : List Value} : FrameBlind (MPc g V A av) := fun a U f mk q => ⟨q.1, KM.moved (u := U) (U := U.calling f mk a) (Vm.Alike.refl U.vm) q.2.1, q.2.2⟩
theorem mo_recv {g : MG} {V : VV} {A : AA} {s : State} {H : Heap} (hK : KM g s) (hM : HM g V A H) : ∃ cell : Cell, H[mh g]? = some cell ∧ cell.vm.isStatics = false ∧ s.vm.findClass RX9 = some cell.cls := by
  obtain ⟨cell, q1, q2, q3, -⟩ := hM.1
  exact ⟨cell, q1, by rw [q3]; rfl, by rw [q2]; exact hK.1.2.1⟩
section MOW
variable {p : Program} {l : Launch} {e : Env} {R : Room} {s : State} {m : MethodId} {args : Array Value} {below : List Frame} {meth : Method} {c : Code} {H : Heap} {locs : List Loc} {cells slots : Nat} {Q : State → Prop}
variable {cc : ByteArray} {nL pc : Nat} {ls : Array Slot} {rest : List Value} {g : MG} {V : VV} {A : AA}
theorem mo_geti (S : CallFix p m c cc nL s args lw_all RX9) (hK : KM g s) (hM : HM g V A H) (k : Nat) (hk : k < 46 ∧ mo_isA k = false) {index : Nat} (hlink : Cond.fieldLink RX9 index RX9 (TX9 k).2.1 (TX9 k).2.2.1 ∈ lw_all) (hdg : decode cc pc = .ok (.getfield index, 3))
    (hsame : (TX9 k).1 = RX9) (kk : W p l e R s m args below meth c H locs cells slots Q (F0 m (pc + 3) ls (.int (V k) :: rest))) : W p l e R s m args below meth c H locs cells slots Q (F0 m pc ls (.ref (mh g) :: rest)) := by
  obtain ⟨hx, hb, -, hown, hts⟩ := S
  obtain ⟨cell, q1, q2, q3, q4⟩ := hM.1
  obtain ⟨hS, hfc, kC, hkC, hkind⟩ := hK.1
  obtain ⟨cf, kf, fi, f, hi, hsl⟩ := hS k hk.1
  refine W.getf hx hb hown (hts _ hlink) (by rw [hsame] at hi; exact hi) (u_facts hfc hkC (u_lays hts in_X9 hk.1) hi).1 q1 (by rw [q3]; exact fun h => by cases h) (v := .int (V k)) ?_ rfl rfl hdg kk
  rw [hsl, q4 k hk.1]
  simp [mo_fv, hk.2]
theorem mo_geta (S : CallFix p m c cc nL s args lw_all RX9) (hK : KM g s) (hM : HM g V A H) (k : Nat) (hk : k < 46 ∧ mo_isA k = true) {index : Nat} (hlink : Cond.fieldLink RX9 index RX9 (TX9 k).2.1 (TX9 k).2.2.1 ∈ lw_all) (hdg : decode cc pc = .ok (.getfield index, 3))
    (hsame : (TX9 k).1 = RX9) (kk : W p l e R s m args below meth c H locs cells slots Q (F0 m (pc + 3) ls (.ref (ma g k) :: rest))) : W p l e R s m args below meth c H locs cells slots Q (F0 m pc ls (.ref (mh g) :: rest)) := by
  obtain ⟨hx, hb, -, hown, hts⟩ := S
  obtain ⟨cell, q1, q2, q3, q4⟩ := hM.1
  obtain ⟨hS, hfc, kC, hkC, hkind⟩ := hK.1
  obtain ⟨cf, kf, fi, f, hi, hsl⟩ := hS k hk.1
  refine W.getf hx hb hown (hts _ hlink) (by rw [hsame] at hi; exact hi) (u_facts hfc hkC (u_lays hts in_X9 hk.1) hi).1 q1 (by rw [q3]; exact fun h => by cases h) (v := .ref (ma g k)) ?_ rfl rfl hdg kk
  rw [hsl, q4 k hk.1]
  simp [mo_fv, hk.2]
theorem mo_apart (hts : ∀ w ∈ lw_all, w.before args s = true) (hK : KM g s) : ∀ x y, x < 46 → y < 46 → x ≠ y → g.2.1 x ≠ g.2.1 y := by
  intro x y hx hy hne
  obtain ⟨hS, -⟩ := hK.1
  obtain ⟨_, _, _, fa, hia, ea⟩ := hS x hx
  obtain ⟨_, _, _, fb, hib, eb⟩ := hS y hy
  rw [← ea, ← eb]
  refine u_apart (u_lays hts in_X9 hx) (u_lays hts in_X9 hy) hia hib ?_
  rw [(State.fieldFound?_type hia (tyX9_ok x hx)).1, (State.fieldFound?_type hib (tyX9_ok y hy)).1]
  exact nmX9 x hx y hy hne
theorem mo_put (S : CallFix p m c cc nL s args lw_all RX9) (hK : KM g s) (hI : HI g) (hM : HM g V A H) (hS0 : va_S (HA g) s.heap H locs) (k : Nat) (hk : k < 46 ∧ mo_isA k = false) {index : Nat} (hlink : Cond.fieldLink RX9 index RX9 (TX9 k).2.1 (TX9 k).2.2.1 ∈ lw_all) (hdg : decode cc pc = .ok (.putfield index, 3))
    (hsame : (TX9 k).1 = RX9) (hfin : (TX9 k).2.2.2 = false) {v : Int32} (hn : narrow (tyX9 k) (.int v) = .int v ∧ fits (tyX9 k) (.int v) = true)
    (kk : ∀ (H1 : Heap) (locs1 : List Loc), HM g (vu V k v) A H1 → va_S (HA g) s.heap H1 locs1 → W p l e R s m args below meth c H1 locs1 cells slots Q (F0 m (pc + 3) ls rest)) : W p l e R s m args below meth c H locs cells slots Q (F0 m pc ls (.int v :: .ref (mh g) :: rest)) := by
  obtain ⟨hx, hb, -, hown, hts⟩ := S
  have hap := mo_apart hts hK
  obtain ⟨⟨cell, q1, q2, q3, q4⟩, hA⟩ := hM
  obtain ⟨hS, hfc, kC, hkC, hkind⟩ := hK.1
  obtain ⟨cf, kf, fi, f, hi, hsl⟩ := hS k hk.1
  have hlay := hts _ (in_X9 _ (u_in_lay hk.1))
  unfold u_lay at hlay
  rw [if_neg (by rw [hfin]; decide)] at hlay
  have hst := (u_facts hfc hkC (u_lays hts in_X9 hk.1) hi).1
  have h6 := u_store hfc hkC hkind hlay hi (tyX9_ok k hk.1) hn.1 hn.2
  refine W.putK hx hb (f := f) ⟨hown, hts _ hlink, ⟨_, _, _, by rw [hsame] at hi; exact hi⟩, hst⟩ (by rw [q2]; exact h6) q1 q3 (by rw [hsl]; exact k2_hasslot (q4 k hk.1)) rfl rfl hdg fun H' e1 e2 e3 => ?_
  rw [hsl] at e1 ⊢
  refine kk H' _ ⟨t_OB.to (V := updV (mo_fv g V) k (.int v)) ⟨_, e1, q2, q3, t_set q4 hap hk.1 (.int v)⟩ (fun j _ => ?_), fun j hj => ?_⟩ (hS0.put e2 e3 (Or.inl rfl))
  · by_cases hjk : j = k
    · subst hjk
      simp [updV, mo_fv, vu, hk.2]
    · simp [updV, mo_fv, vu, hjk]
  · rw [e3 _ (hI.1 j hj)]
    exact hA j hj
theorem mo_ald (S : CallFix p m c cc nL s args lw_all RX9) (hK : KM g s) (hM : HM g V A H) (k : Nat) (hk : mo_isA k = true) {i : Int32} (hin : vp_in i (mo_len k)) (hdg : decode cc pc = .ok (.iaload, 1))
    (kk : W p l e R s m args below meth c H locs cells slots Q (F0 m (pc + 1) ls (.int (A k i.toNatClampNeg) :: rest))) : W p l e R s m args below meth c H locs cells slots Q (F0 m pc ls (.int i :: .ref (ma g k) :: rest)) := by
  have hlt : i.toNatClampNeg < mo_len k := Nat.not_le.mp fun q => hin (Or.inr q)
  exact W.iald (v := .int (A k i.toNatClampNeg)) S.1 S.2.1 (hM.2 k hk) (hK.2 (mo_len k) (fun j => .int (A k j))) (fun q => by cases q) (by rw [arrV_size]; exact hin) (by rw [arrV_read _ _ hlt]) rfl rfl hdg kk
theorem mo_ast (S : CallFix p m c cc nL s args lw_all RX9) (hK : KM g s) (hI : HI g) (hM : HM g V A H) (hS0 : va_S (HA g) s.heap H locs) (k : Nat) (hk : mo_isA k = true) {i v : Int32} (hin : vp_in i (mo_len k)) (hdg : decode cc pc = .ok (.iastore, 1))
    (kk : ∀ (H1 : Heap) (locs1 : List Loc), HM g V (au A k i.toNatClampNeg v) H1 → va_S (HA g) s.heap H1 locs1 → W p l e R s m args below meth c H1 locs1 cells slots Q (F0 m (pc + 1) ls rest)) : W p l e R s m args below meth c H locs cells slots Q (F0 m pc ls (.int v :: .int i :: .ref (ma g k) :: rest)) := by
  refine W.iast S.1 S.2.1 (hM.2 k hk) (hK.2 (mo_len k) (fun j => .int (A k j))) (fun q => by cases q) (by rw [arrV_size]; exact hin) rfl rfl hdg fun H1 e1 z oq => ?_
  refine kk H1 _ ⟨hM.1.kept (oq _ (fun q => hI.1 k hk q.symm)), fun j hj => ?_⟩ (hS0.put z oq (Or.inr ⟨k, hk, rfl⟩))
  by_cases hjk : j = k
  · subst hjk
    rw [e1, arrV_store]
    congr 2
    funext q
    by_cases hq : q = i.toNatClampNeg
    · simp [updV, au, hq]
    · simp [updV, au, hq]
  · rw [oq _ (fun q => hjk (hI.2 j k hj hk q)), hM.2 j hj]
    congr 2
    funext q
    simp [au, hjk]
variable {y : MethodName} {bytes : ByteArray} {maxL n index : Nat} {rm : Room} {As st0 : List Value}
theorem mo_callv {post : VV → AA → Prop} (S : CallFix p m c cc nL s args lw_all RX9) (hK : KM g s) (hM : HM g V A H) (hS : va_S (HA g) s.heap H locs)
    (met : Met l y (ws_ y bytes maxL none) rm (MPc g V A (.ref (mh g) :: As)) (MQv g post) 0 0 (HA g)) (cw : CallW R s args RX9 RX9 index y bytes maxL none (ws_ y bytes maxL none) rm 0 0 n)
    (hn : As.length = n) (hsz : ls.size = nL) (hst : st0 = As.reverse ++ .ref (mh g) :: rest) (hW : 2 * (F0 m pc ls st0).monitorRoom + (rest.map fun v => v.category).sum ≤ 8) (hdg : decode cc pc = .ok (.invokevirtual index, 3)) (hf : cells ≤ R.cells ∧ slots ≤ R.slots)
    (kk : ∀ (V' : VV) (A' : AA) (H' : Heap) (locs' : List Loc), post V' A' → HM g V' A' H' → va_S (HA g) s.heap H' locs' → W p l e R s m args below meth c H' locs' cells slots Q (F0 m (pc + 3) ls rest)) : W p l e R s m args below meth c H locs cells slots Q (F0 m pc ls st0) := by
  refine va_callv (A1 := HA g) (va_runV (rest := rest) S met cw ⟨mo_blind, mo_recv hK hM, fun U hU hW => ⟨rfl, hK.moved hW.alike, by rw [hU]; exact hM⟩⟩ rfl hn hsz hst hW hdg hf) hS (fun _ _ h => h) (fun _ h => h) (fun u t H1 locs1 ht hvm hp hB hz hk hS => ?_)
  exact kk u.1 u.2 H1 locs1 hp (by rw [← ht]; exact hB) hS
theorem mo_calli {post : Int32 → VV → AA → Prop} {ty : FieldType} (S : CallFix p m c cc nL s args lw_all RX9) (hK : KM g s) (hM : HM g V A H) (hS : va_S (HA g) s.heap H locs)
    (met : Met l y (ws_ y bytes maxL (some ty)) rm (MPc g V A (.ref (mh g) :: As)) (MQi g post) 0 0 (HA g)) (cw : CallW R s args RX9 RX9 index y bytes maxL (some ty) (ws_ y bytes maxL (some ty)) rm 0 0 n)
    (hn : As.length = n) (hsz : ls.size = nL) (hst : st0 = As.reverse ++ .ref (mh g) :: rest) (hW : 2 * (F0 m pc ls st0).monitorRoom + (rest.map fun v => v.category).sum ≤ 8) (hdg : decode cc pc = .ok (.invokevirtual index, 3)) (hf : cells ≤ R.cells ∧ slots ≤ R.slots)
    (kk : ∀ (r : Int32) (V' : VV) (A' : AA) (H' : Heap) (locs' : List Loc), post r V' A' → HM g V' A' H' → va_S (HA g) s.heap H' locs' → W p l e R s m args below meth c H' locs' cells slots Q (F0 m (pc + 3) ls (.int r :: rest))) : W p l e R s m args below meth c H locs cells slots Q (F0 m pc ls st0) := by
  refine va_calli (A1 := HA g) (va_runV (rest := rest) S met cw ⟨mo_blind, mo_recv hK hM, fun U hU hW => ⟨rfl, hK.moved hW.alike, by rw [hU]; exact hM⟩⟩ rfl hn hsz hst hW hdg hf) hS (fun _ _ h => h) (fun _ h => h) (fun r u t H1 locs1 ht hvm hp hB hz hk hS => ?_)
  exact kk r u.1 u.2 H1 locs1 hp (by rw [← ht]; exact hB) hS
theorem mo_scalli {post : Int32 → VV → AA → Prop} {ty : FieldType} (S : CallFix p m c cc nL s args lw_all RX9) (hK : KM g s) (hM : HM g V A H) (hS : va_S (HA g) s.heap H locs)
    (met : Met l y (ws_ y bytes maxL (some ty)) rm (MPc g V A As) (MQi g post) 0 0 (HA g)) (cw : CallB R s args RX9 index y bytes maxL (some ty) (ws_ y bytes maxL (some ty)) rm 0 0 n ∧ (Cond.static y).before args s = true)
    (hn : As.length = n) (hsz : ls.size = nL) (hst : st0 = As.reverse ++ rest) (hW : 2 * (F0 m pc ls st0).monitorRoom + (rest.map fun v => v.category).sum ≤ 8) (hdg : decode cc pc = .ok (.invokestatic index, 3)) (hf : cells ≤ R.cells ∧ slots ≤ R.slots)
    (kk : ∀ (r : Int32) (V' : VV) (A' : AA) (H' : Heap) (locs' : List Loc), post r V' A' → HM g V' A' H' → va_S (HA g) s.heap H' locs' → W p l e R s m args below meth c H' locs' cells slots Q (F0 m (pc + 3) ls (.int r :: rest))) : W p l e R s m args below meth c H locs cells slots Q (F0 m pc ls st0) := by
  refine va_calli (A1 := HA g) (va_runS (rest := rest) S met cw ⟨mo_blind, fun U hU hW => ⟨rfl, hK.moved hW.alike, by rw [hU]; exact hM⟩⟩ rfl hn hsz hst hW hdg hf) hS (fun _ _ h => h) (fun _ h => h) (fun r u t H1 locs1 ht hvm hp hB hz hk hS => ?_)
  exact kk r u.1 u.2 H1 locs1 hp (by rw [← ht]; exact hB) hS
theorem mo_iret {post : Int32 → VV → AA → Prop} (S : CallFix p m c cc nL s args lw_all RX9) (hr : meth.sig.returnType = some .int) (hlocks : meth.locks = false) (hM : HM g V A H) (hS : va_S (HA g) s.heap H locs) {v : Int32} (hp : post v V A) (hdg : decode cc pc = .ok (.ireturn, 1)) :
    W p l e R s m args below meth c H locs cells slots (MQ below (MQi g post) args s cells slots (HA g)) (F0 m pc ls [.int v]) :=
  W.iret (v := v) S.1 S.2.1 hr (fun t ht hW => ⟨⟨v, (V, A), rfl, hp, by show HM g V A t.heap; rw [ht]; exact hM⟩, hS.F ht⟩) hS.2.2 hdg hlocks
theorem mo_zret {post : Int32 → VV → AA → Prop} (S : CallFix p m c cc nL s args lw_all RX9) (hr : meth.sig.returnType = some .boolean) (hlocks : meth.locks = false) (hM : HM g V A H) (hS : va_S (HA g) s.heap H locs) {v : Int32} (hn : narrow .boolean (.int v) = .int v) (hp : post v V A) (hdg : decode cc pc = .ok (.ireturn, 1)) :
    W p l e R s m args below meth c H locs cells slots (MQ below (MQi g post) args s cells slots (HA g)) (F0 m pc ls [.int v]) :=
  W.zret (v := v) S.1 S.2.1 hr hn (fun t ht hW => ⟨⟨v, (V, A), rfl, hp, by show HM g V A t.heap; rw [ht]; exact hM⟩, hS.F ht⟩) hS.2.2 hdg hlocks
theorem mo_vret {post : VV → AA → Prop} (S : CallFix p m c cc nL s args lw_all RX9) (hr : meth.sig.returnType = none) (hlocks : meth.locks = false) (hM : HM g V A H) (hS : va_S (HA g) s.heap H locs) (hp : post V A) (hdg : decode cc pc = .ok (.return_, 1)) :
    W p l e R s m args below meth c H locs cells slots (MQ below (MQv g post) args s cells slots (HA g)) (F0 m pc ls []) :=
  W.vret S.1 S.2.1 hr (fun t ht hW => ⟨⟨(V, A), rfl, hp, by show HM g V A t.heap; rw [ht]; exact hM⟩, hS.F ht⟩) hS.2.2 hdg hlocks
end MOW
/-- a boolean that may be stored and returned -/
theorem mo_bool {v : Int32} (h : v = 0 ∨ v = 1) : narrow .boolean (.int v) = .int v ∧ fits .boolean (.int v) = true := by
  rcases h with rfl | rfl <;> exact ⟨rfl, rfl⟩
