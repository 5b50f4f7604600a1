/-! what a native method throws, no traces kept: the note stands over the native frame (nx_start .. nx_msg follow the proofs of Steps.vmThrowsMessageColdByV, ColdThrowSVmV.lean, and of its parts, for any frames behind the note) -/
set_option maxRecDepth 100000
section NXA
variable {p : Program} {l : Launch} {e : Env} {below base : List Frame}
/-- the thread goes on, and may stand over these frames -/
def nx_Ov (s : State) (base below : List Frame) : Prop := s.goesOn ∧ s.cur < s.threads.size ∧ ∃ mid, mid ≠ [] ∧ base = mid ++ below
theorem nx_head {s target : State} {f : Frame} (h : nx_Ov s base below) (k : Steps p.tables e below (stepThread p.tables e (s.setFrames (f :: base))).1 target) : Steps p.tables e below (s.setFrames (f :: base)) target := by
  obtain ⟨h1, h2, mid, hne, hmid⟩ := h
  have hf0 : (s.setFrames (f :: base)).frames = f :: base := State.frames_setFrames _ h2
  exact Steps.head ⟨h1.1, by simpa using h1.2.1, by simpa using h1.2.2⟩ ⟨f :: mid, by rw [hf0, hmid]; rfl, by simp, by simp [hne]⟩ k
theorem nx_start {s target : State} (h : nx_Ov s base below) (Z : StringT) (LZ : Z.Laid s.vm) {cls m : String} {cX : ClassId} {kX : Class} {i : Nat}
    (hsoe : (cls == "java/lang/StackOverflowError") = false) (hoom : (cls == "java/lang/OutOfMemoryError") = false)
    (hfound : s.vm.findClass cls = some cX) (hk : s.vm.classes[cX]? = some kX) (hinit : kX.init = .initialized) (hord : kX.kind = .ordinary)
    (hhot : e.platform.hotImplicitExceptions = false)
    (hbeyond : e.platform.stackBeyond ((((s.setFrames (.throwNew cls (some m) none :: base)).threads[s.cur]?).map (·.stackBytes)).getD 0) (s.setFrames (.throwNew cls (some m) none :: base)).frames = false)
    (hfree : e.platform.vmThrowRoom ≤ e.platform.stackFree ((((s.setFrames (.throwNew cls (some m) none :: base)).threads[s.cur]?).map (·.stackBytes)).getD 0) (s.setFrames (.throwNew cls (some m) none :: base)).frames)
    (hm : (m == notModelled) = false) (hctor : kX.findMethod "<init>" "(Ljava/lang/String;)V" = some i)
    (hlimit : ¬ (stringBytes (stringToUtf16 m)).size > e.platform.arrayLengthLimit) (hheap : ¬ (stringBytes (stringToUtf16 m)).size * componentBytes .byte > e.platform.maxHeapBytes)
    (hcells : s.heap.size + 3 ≤ e.platform.maxCells) (hslots : s.slotsUsed + (stringBytes (stringToUtf16 m)).size + Z.kS.instanceTypes.size + kX.instanceTypes.size ≤ e.platform.maxSlots)
    (hfitv : s.fitsSlot Z.cS .none Z.fv.slot (.ref s.heap.size) = true) (hfitc : s.fitsSlot Z.cS .none Z.fc.slot (.int (stringCoder (stringToUtf16 m))) = true)
    (hrest : Steps p.tables e below (doInvoke e ((withThrown s Z m cX kX).setFrames (.thenThrow (s.heap.size + 2) :: base)) [] ⟨cX, i⟩ #[.ref (s.heap.size + 2), .ref (s.heap.size + 1)]).1 target) :
    Steps p.tables e below (s.setFrames (.throwNew cls (some m) none :: base)) target := by
  refine nx_head h ?_
  have hf0 : (s.setFrames (.throwNew cls (some m) none :: base)).frames = .throwNew cls (some m) none :: base := State.frames_setFrames _ h.2.1
  rw [stepThread_throwNew hf0, stepThrowNew_message (s := s.setFrames (.throwNew cls (some m) none :: base)) (c := cX) (k := kX) (i := i) Z LZ hsoe hoom hfound hk hinit hord hhot hbeyond hfree hm hctor hlimit hheap hcells hslots hfitv hfitc]
  have hN : (withThrown (s.setFrames (.throwNew cls (some m) none :: base)) Z m cX kX).setFrames (.thenThrow ((s.setFrames (.throwNew cls (some m) none :: base)).heap.size + 2) :: base) = ((withThrown s Z m cX kX).setFrames (.thenThrow (s.heap.size + 2) :: base)) := by
    rw [withThrown_setFrames, State.setFrames_setFrames]
    rfl
  rw [hN]
  exact hrest
/-- the constructor's frame over the note behind which the object is thrown -/
abbrev nx_In (W : State) (base : List Frame) (a str : Addr) (m : MethodId) : State := (W.setFrames (.thenThrow a :: base)).pushFrame (.java (passJ m a (.ref str) 0 []))
theorem nx_in {W : State} (hW : nx_Ov W base below) (a str : Addr) {m : MethodId} {meth : Method} {code : Code} (hm : W.vm.method? m = some meth) (hc : meth.code = some code) (hplain : W.plainMethod m) :
    (W.setFrames (.thenThrow a :: base)).frames = .thenThrow a :: base ∧ Jvm.At (nx_In W base a str m) m code below ∧ (nx_In W base a str m).frames = .java (passJ m a (.ref str) 0 []) :: .thenThrow a :: base := by
  obtain ⟨h1, h2, mid, -, hmid⟩ := hW
  have hfN : (W.setFrames (.thenThrow a :: base)).frames = .thenThrow a :: base := State.frames_setFrames _ h2
  have hcN : (W.setFrames (.thenThrow a :: base)).cur < (W.setFrames (.thenThrow a :: base)).threads.size := State.cur_lt_of_frames hfN
  have hgN : (W.setFrames (.thenThrow a :: base)).goesOn := ⟨h1.1, by simpa using h1.2.1, by simpa using h1.2.2⟩
  refine ⟨hfN, Jvm.At.pushOn _ hgN hcN ⟨.thenThrow a :: mid, by rw [hfN, hmid]; rfl⟩ hm hc hplain, ?_⟩
  rw [show (nx_In W base a str m).frames = .java (passJ m a (.ref str) 0 []) :: (W.setFrames (.thenThrow a :: base)).frames from State.frames_setFrames _ hcN, hfN]
theorem nx_ret {W target : State} (hW : nx_Ov W base below) (hexec : p.tables.exec = Jvm.exec) {F : State → State} (hF : HeapOnly F) (a str : Addr) {m : MethodId} {meth : Method} {code : Code}
    (hm : W.vm.method? m = some meth) (hc : meth.code = some code) (hplain : W.plainMethod m) (hl : meth.locks = false) (h5 : decode code.code 5 = .ok (.return_, 1))
    (hrest : Steps p.tables e below ((F W).setFrames (.throwing a :: base)) target) :
    Steps p.tables e below ((F (nx_In W base a str m)).setTop (passJ m a (.ref str) 5 [])) target := by
  obtain ⟨hfN, hI, hfI⟩ := nx_in hW a str hm hc hplain
  obtain ⟨-, -, mid, -, hmid⟩ := hW
  have hB : Jvm.At (F (nx_In W base a str m)) m code below := hF.at_ hI
  jvm_step hB [hexec, h5, return_.wp_sem]
  intro acts2
  have hfH : (F (nx_In W base a str m)).frames = .java (passJ m a (.ref str) 0 []) :: .thenThrow a :: base := by rw [hF.frames]; exact hfI
  rw [ret_to (t := F (nx_In W base a str m)) (f := passJ m a (.ref str) 5 []) (f₀ := passJ m a (.ref str) 0 []) (below := .thenThrow a :: base) (fs := .thenThrow a :: base) (meth := meth) hfH (by rw [hF.vm]; exact hm) hl rfl rfl rfl acts2]
  have hHI : ∀ G, (F (nx_In W base a str m)).setFrames G = (F W).setFrames G := by
    intro G
    rw [nx_In, State.pushFrame, hF.setFrames, hF.setFrames, State.setFrames_setFrames, State.setFrames_setFrames]
  have hcur : (F (nx_In W base a str m)).cur < (F (nx_In W base a str m)).threads.size := State.cur_lt_of_frames hfH
  have hf1 : ((F (nx_In W base a str m)).setFrames (.thenThrow a :: base)).frames = .thenThrow a :: base := State.frames_setFrames _ hcur
  refine Steps.head ⟨hB.running, by simpa using hB.runnable, by simpa using hB.alone⟩ ⟨.thenThrow a :: mid, by rw [hf1, hmid]; rfl, by simp, by simp⟩ ?_
  rw [stepThread_thenThrow hf1]
  show Steps p.tables e below (((F (nx_In W base a str m)).setFrames (.thenThrow a :: base)).setFrames (.throwing a :: base)) target
  rw [State.setFrames_setFrames, hHI]
  exact hrest
theorem nx_Ov.vm {s : State} (h : nx_Ov s base below) (vm : Vm) : nx_Ov (s.setVm vm) base below := ⟨h.1, h.2.1, h.2.2⟩
theorem nx_ctor {s₀ W : State} (hW9 : nx_Ov W base below) (hexec : p.tables.exec = Jvm.exec) {F : State → State} (hF : HeapOnly F) (P1 : PassC) (L1 : P1.LinksS e.platform s₀) (hW : s₀.WarmedH W.vm) (a str : Addr)
    (hroom : e.platform.stackFull (((W.setFrames (.thenThrow a :: base)).threads[(W.setFrames (.thenThrow a :: base)).cur]?).getD { frames := [] }) (W.setFrames (.thenThrow a :: base)).frames 2 = false)
    (hsup : ∀ vm1, s₀.WarmedH vm1 → Jvm.At (nx_In (W.setVm vm1) base a str P1.m) P1.m P1.code below → ∃ vm2, s₀.WarmedH vm2 ∧ ∀ t' : State,
      Steps p.tables e below ((F (nx_In (W.setVm vm2) base a str P1.m)).setTop (passJ P1.m a (.ref str) 5 [])) t' →
      Steps p.tables e below (doInvoke e ((nx_In (W.setVm vm1) base a str P1.m).setTop (passJ P1.m a (.ref str) 2 [])) [] P1.sup #[.ref a, .ref str]).1 t') :
    ∃ vm', s₀.WarmedH vm' ∧ ∀ target, Steps p.tables e below ((F (W.setVm vm')).setFrames (.throwing a :: base)) target → Steps p.tables e below (doInvoke e (W.setFrames (.thenThrow a :: base)) [] P1.m #[.ref a, .ref str]).1 target := by
  have hmW := hW.methodAt L1.method
  obtain ⟨hfN, hI, hfI⟩ := nx_in hW9 a str hmW L1.code (hW.plainAt L1.plain)
  obtain ⟨vm1, hW1, st1⟩ := Steps.invokeInitCold (tb := p.tables) (s₀ := s₀) (U := nx_In W base a str P1.m) (f := passJ P1.m a (.ref str) 2 [.ref str, .ref a]) (args := [.ref str]) (rest := []) (a := a) hI hexec L1.at2 hW L1.links L1.right L1.notHandle L1.cls L1.file L1.pool
    L1.supClass L1.supMethod L1.supName L1.supStatic L1.supAbstract L1.supFound L1.supParams.symm rfl
  obtain ⟨vm2, hW2, st2⟩ := hsup vm1 hW1 (hI.setVm (hW.alike.symm.trans hW1.alike))
  refine ⟨vm2, hW2, fun target hrest => ?_⟩
  rw [(doInvoke_java (s := (W.setFrames (.thenThrow a :: base))) (e := e) (acts := []) (args := #[.ref a, .ref str]) (meth := P1.meth) (code := P1.code) hmW L1.code L1.locks (by rw [L1.locals]; exact hroom)).1, L1.locals]
  show Steps p.tables e below (nx_In W base a str P1.m) target
  rw [← State.setTop_self (s := nx_In W base a str P1.m) (State.topJava?_of_frames hfI)]
  jvm_step hI [hexec, L1.at0, Value.isRef]
  jvm_step hI [hexec, L1.at1, Value.isRef]
  refine st1 target (st2 target ?_)
  exact nx_ret (W := W.setVm vm2) (hW9.vm vm2) hexec hF a str (hW2.methodAt L1.method) L1.code (hW2.plainAt (U := W.setVm vm2) L1.plain) L1.locks L1.at5 hrest
theorem nx_msg {s₀ S : State} (h : nx_Ov S base below) (hexec : p.tables.exec = Jvm.exec)
    (T : ThrowableC) (L : T.Links e.platform s₀) (Z : Init0T) (LZ : Z.LaidS T.toThrowableT) (M : MsgC) (LM : M.Links T e.platform s₀) (hW : s₀.WarmedH S.vm) (Zs : StringT) (LZs : Zs.Laid s₀.vm)
    (P1 : PassC) (L1 : P1.LinksS e.platform s₀) (Ps : List PassC) (hL : ∀ P, P ∈ Ps → P.LinksS e.platform s₀) (hlink1 : P1.sup = firstOf (Z.m T.toThrowableT) (Ps.map (·.toPassT))) (hlink : PassesOn (Z.m T.toThrowableT) (Ps.map (·.toPassT)))
    {cls m : String} {kX : Class} (hsoe : (cls == "java/lang/StackOverflowError") = false) (hoom : (cls == "java/lang/OutOfMemoryError") = false)
    (hfound : s₀.vm.findClass cls = some P1.m.cls) (hk : s₀.vm.classes[P1.m.cls]? = some kX) (hinit : kX.init = .initialized) (hord : kX.kind = .ordinary)
    (hctor : kX.findMethod "<init>" "(Ljava/lang/String;)V" = some P1.m.idx) (hhot : e.platform.hotImplicitExceptions = false)
    (hbeyond : e.platform.stackBeyond ((((S.setFrames (.throwNew cls (some m) none :: base)).threads[S.cur]?).map (·.stackBytes)).getD 0) (S.setFrames (.throwNew cls (some m) none :: base)).frames = false)
    (hfreeW : e.platform.vmThrowRoom ≤ e.platform.stackFree ((((S.setFrames (.throwNew cls (some m) none :: base)).threads[S.cur]?).map (·.stackBytes)).getD 0) (S.setFrames (.throwNew cls (some m) none :: base)).frames)
    (hm : (m == notModelled) = false)
    (hlimit : ¬ (stringBytes (stringToUtf16 m)).size > e.platform.arrayLengthLimit) (hheap : ¬ (stringBytes (stringToUtf16 m)).size * componentBytes .byte > e.platform.maxHeapBytes)
    (hcells : S.heap.size + 3 ≤ e.platform.maxCells) (hslots : S.slotsUsed + (stringBytes (stringToUtf16 m)).size + Zs.kS.instanceTypes.size + kX.instanceTypes.size ≤ e.platform.maxSlots)
    (hfitv : s₀.fitsSlot Zs.cS .none Zs.fv.slot (.ref S.heap.size) = true) (hfitc : s₀.fitsSlot Zs.cS .none Zs.fc.slot (.int (stringCoder (stringToUtf16 m))) = true)
    {u0 sen : RefV} {cellS : Cell} (hsel0 : selectMethod e.platform s₀.vm (freshCell P1.m.cls kX).cls T.fill0 = .method T.fill0)
    (hcellS : S.heap[T.aS]? = some cellS) (hknownS : cellS.vm ≠ .unknown) (hvU : cellS.slots[T.fUnassigned.slot]? = some u0.v)
    (htS : Takes s₀ (freshCell P1.m.cls kX) T.fStack u0.v)
    (hskip : SkipFacts T e.platform s₀ (fun u => u) u0 ((preparedCellV T.toThrowableT (freshCell P1.m.cls kX) (S.heap.size + 2) u0 sen).withEntry S.cur))
    (hnat : u0.v ≠ .null → ∀ u : State, Jvm.At u T.fill T.codeFill below → s₀.WarmedH u.vm → u.heap[(S.heap.size + 2)]? = some ((preparedCellV T.toThrowableT (freshCell P1.m.cls kX) (S.heap.size + 2) u0 sen).withEntry S.cur) →
      e.platform.stackFull (((u.setTop (fillJ T.fill (S.heap.size + 2) 16 [])).threads[(u.setTop (fillJ T.fill (S.heap.size + 2) 16 [])).cur]?).getD { frames := [] }) (u.setTop (fillJ T.fill (S.heap.size + 2) 16 [])).frames (nativeFrameWords "java/lang/Throwable" "fillInStackTrace" 2) = false → ∀ t' : State,
      Steps p.tables e below (u.setTop (fillJ T.fill (S.heap.size + 2) 19 [.ref (S.heap.size + 2)])) t' →
      Steps p.tables e below (doInvoke e (u.setTop (fillJ T.fill (S.heap.size + 2) 16 [])) [] T.fill0 #[.ref (S.heap.size + 2), .int 0]).1 t')
    (hselF : selectMethod e.platform s₀.vm (freshCell P1.m.cls kX).cls T.fill = .method T.fill) (hvSen : cellS.slots[T.fSentinel.slot]? = some sen.v)
    (htC : Takes s₀ (freshCell P1.m.cls kX) T.fCause (.ref (S.heap.size + 2))) (htP : Takes s₀ (freshCell P1.m.cls kX) T.fSupp sen.v) (htM : Takes s₀ (freshCell P1.m.cls kX) T.fMsg (.ref (S.heap.size + 1))) (hobjLocals : T.codeObj.maxLocals = 1)
    (hframes : base.length + Ps.length + 4 < (e.platform.stackLimits S.me).1) (hwords : (stackUse base).2 + 13 * Ps.length + 55 ≤ (e.platform.stackLimits S.me).2) :
    ∃ vm', s₀.WarmedH vm' ∧ ∀ target, Steps p.tables e below ((((withThrown S Zs m P1.m.cls kX).setVm vm').setCell (S.heap.size + 2) (((((preparedCellV T.toThrowableT (freshCell P1.m.cls kX) (S.heap.size + 2) u0 sen).withEntry S.cur).setSlot T.fStack.slot u0.v).left.setSlot T.fMsg.slot (.ref (S.heap.size + 1))))).setFrames (.throwing (S.heap.size + 2) :: base)) target →
      Steps p.tables e below (S.setFrames (.throwNew cls (some m) none :: base)) target := by
  obtain ⟨kX', hk', he'⟩ := hW.alike.2.2 _ _ hk
  have hty : kX'.instanceTypes = kX.instanceTypes := by rw [he']
  have hfresh : freshCell P1.m.cls kX' = (freshCell P1.m.cls kX) := by
    show ({ cls := P1.m.cls, slots := kX'.instanceTypes.map defaultValue, vm := .none } : Cell) = _
    rw [hty]
  obtain ⟨kS', kB', LZ', htyS⟩ := LZs.warmer hW.alike
  have hsame : withThrown S { Zs with kS := kS', kB := kB' } m P1.m.cls kX' = (withThrown S Zs m P1.m.cls kX) := by
    rw [← withThrown_warmer S Zs (kB' := kB') htyS m P1.m.cls kX]
    show (withString S _ _ _ _ _ _).pushCell (freshCell P1.m.cls kX') = (withString S _ _ _ _ _ _).pushCell (freshCell P1.m.cls kX)
    rw [hfresh]
  have hfs : S.fitsSlot = s₀.fitsSlot := (show S.fitsSlot = (s₀.setVm S.vm).fitsSlot from rfl).trans (State.fitsSlot_setVm hW.alike)
  obtain ⟨w1, w2, -, w4, w5, -, w7⟩ := withThrown_facts e.platform S Zs m P1.m.cls kX
  have hltS : T.aS < S.heap.size := (Array.getElem?_eq_some_iff.mp hcellS).1
  have hneS : T.aS ≠ S.heap.size + 2 := Nat.ne_of_lt (Nat.lt_of_lt_of_le hltS (Nat.le_add_right _ 2))
  have hWo : nx_Ov (withThrown S Zs m P1.m.cls kX) base below := ⟨h.1, h.2.1, h.2.2⟩
  have hWcur : (withThrown S Zs m P1.m.cls kX).cur = S.cur := by simp [withThrown, withString]
  suffices hctorS : ∃ vm', s₀.WarmedH vm' ∧ ∀ target, Steps p.tables e below ((((withThrown S Zs m P1.m.cls kX).setVm vm').setCell (S.heap.size + 2) (((((preparedCellV T.toThrowableT (freshCell P1.m.cls kX) (S.heap.size + 2) u0 sen).withEntry S.cur).setSlot T.fStack.slot u0.v).left.setSlot T.fMsg.slot (.ref (S.heap.size + 1))))).setFrames (.throwing (S.heap.size + 2) :: base)) target →
      Steps p.tables e below (doInvoke e ((withThrown S Zs m P1.m.cls kX).setFrames (.thenThrow (S.heap.size + 2) :: base)) [] P1.m #[.ref (S.heap.size + 2), .ref (S.heap.size + 1)]).1 target by
    obtain ⟨vm', hW', st⟩ := hctorS
    refine ⟨vm', hW', fun target hrest => ?_⟩
    refine nx_start h { Zs with kS := kS', kB := kB' } LZ' (cls := cls) (m := m) (cX := P1.m.cls) (kX := kX') (i := P1.m.idx) hsoe hoom (by rw [hW.alike.findClass]; exact hfound) hk' (by rw [he']; exact hinit) (by rw [he']; exact hord)
      hhot hbeyond hfreeW hm (by rw [he']; exact hctor) hlimit hheap hcells (by show S.slotsUsed + _ + kS'.instanceTypes.size + kX'.instanceTypes.size ≤ _; rw [htyS, hty]; exact hslots) (by rw [hfs]; exact hfitv) (by rw [hfs]; exact hfitc) ?_
    rw [hsame]
    exact st target hrest
  have hlim : e.platform.stackLimits (withThrown S Zs m P1.m.cls kX).me = e.platform.stackLimits S.me := w7
  have hWW : s₀.WarmedH (withThrown S Zs m P1.m.cls kX).vm := by rw [w1]; exact hW
  have hcS : (withThrown S Zs m P1.m.cls kX).heap[T.aS]? = some cellS := (w5 _ hltS).trans hcellS
  clear hsame w1 w2 w5 w7
  generalize hWd : (withThrown S Zs m P1.m.cls kX) = W at w4 hWo hWcur hlim hWW hcS ⊢
  generalize hlm : e.platform.stackLimits S.me = lim at hframes hwords hlim ⊢
  generalize hself : S.heap.size + 2 = self at htC hskip hnat hneS w4 ⊢
  generalize hstr : S.heap.size + 1 = str at htM ⊢
  obtain ⟨hfN, -, -⟩ := nx_in hWo self str (hWW.methodAt L1.method) L1.code (hWW.plainAt L1.plain)
  have hlimN : e.platform.stackLimits (W.setFrames (.thenThrow self :: base)).me = lim := by rw [State.stackLimits_setFrames]; exact hlim
  have hroom := roomAbove (pl := e.platform) (u := W.setFrames (.thenThrow self :: base)) (vars := 2) (pushed := [.thenThrow self]) (base := base) (free := 13 * Ps.length + 55) (lim := lim) hfN hlimN
    (by simp only [List.length_cons, List.length_nil]; omega) (by omega) (by rw [stackUse_light _ _ (fun f hf => by cases hf) rfl, stackUse_nil]; show 0 + 2 + 11 ≤ _; omega)
  refine nx_ctor hWo hexec (F := fun u => u.setCell self ((((preparedCellV T.toThrowableT (freshCell P1.m.cls kX) self u0 sen).withEntry S.cur).setSlot T.fStack.slot u0.v).left.setSlot T.fMsg.slot (.ref str))) (heapOnly_id.thenSetCell self _) P1 L1 hWW self str hroom (fun vm1 hW1 hI1 => ?_)
  rw [hlink1]
  obtain ⟨-, -, hfI⟩ := nx_in (hWo.vm vm1) self str (hW1.methodAt L1.method) L1.code (hW1.plainAt (U := W.setVm vm1) L1.plain)
  have hXvm : ∀ w, (nx_In (W.setVm vm1) base self str P1.m).setVm w = nx_In (W.setVm w) base self str P1.m := fun w => by rw [nx_In, nx_In, State.pushFrame_setVm, State.setFrames_setVm, State.setVm_twice]
  have hXc : (nx_In (W.setVm vm1) base self str P1.m).heap[self]? = some (freshCell P1.m.cls kX) := w4
  have hXS : (nx_In (W.setVm vm1) base self str P1.m).heap[T.aS]? = some cellS := hcS
  have hXcur : (nx_In (W.setVm vm1) base self str P1.m).cur = S.cur := hWcur
  have hXW : s₀.WarmedH (nx_In (W.setVm vm1) base self str P1.m).vm := hW1
  have hXlim : e.platform.stackLimits (nx_In (W.setVm vm1) base self str P1.m).me = lim := by rw [nx_In, State.stackLimits_pushFrame, State.stackLimits_setFrames]; exact hlim
  suffices hs : ∃ vm2, s₀.WarmedH vm2 ∧ ∀ t' : State, Steps p.tables e below ((((nx_In (W.setVm vm1) base self str P1.m).setVm vm2).setCell self ((((preparedCellV T.toThrowableT (freshCell P1.m.cls kX) self u0 sen).withEntry S.cur).setSlot T.fStack.slot u0.v).left.setSlot T.fMsg.slot (.ref str))).setTop (passJ P1.m self (.ref str) 5 [])) t' →
      Steps p.tables e below (doInvoke e ((nx_In (W.setVm vm1) base self str P1.m).setTop (passJ P1.m self (.ref str) 2 [])) [] (firstOf (Z.m T.toThrowableT) (Ps.map (·.toPassT))) #[.ref self, .ref str]).1 t' by
    obtain ⟨vm2, hW2, st⟩ := hs
    exact ⟨vm2, hW2, fun t' h' => st t' (by rw [hXvm]; exact h')⟩
  clear hXvm
  generalize (nx_In (W.setVm vm1) base self str P1.m) = X at hI1 hfI hXc hXS hXcur hXW hXlim ⊢
  exact Steps.initThrowableSColdByV p (V := X) (g := passJ P1.m self (.ref str) 2 []) (c := P1.code) (self := self) hI1 hexec T L Z LZ M LM hXW hXcur (Nn := fun u => u) heapOnly_id (fun _ _ => rfl) (fun _ => rfl) (fun u x y => setCell_twice _ _ _ _) (fun _ => Nat.le_refl _) (msg := .ref str) rfl hXc
    (by intro k hk'; cases hk') (by intro hk'; cases hk') rfl hsel0 hXS hneS hknownS hvU htS
    (fun _ hu => hu) (fun _ hu => hu) rfl rfl rfl (by simp [preparedCellV, Cell.setSlot, Cell.withEntry]) hskip hnat hselF hvSen htC htP htM hobjLocals Ps hL hlink (ig := .invokespecial P1.index) (len := 3) [] hXlim
    (by rw [hfI]; simp only [List.length_cons]; omega)
    (by rw [hfI, List.tail_cons, stackUse_java, stackUse_light _ _ (fun f hf => by cases hf) rfl]
        show (stackUse base).2 + (2 + 11 + 2 * 0 + operandWords []) + 13 * Ps.length + 42 ≤ lim.2
        simp only [operandWords, List.foldl_nil]
        omega)
    L1.at2

theorem nx_ov {R : Room} {s : State} {m : MethodId} {args : Array Value} {meth : Method} {c : Code} {T : State} {locs : List Loc} {cells slots : Nat} (X : Stand p l e R s m args below meth c T locs cells slots) (g : JFrame) (nf : NFrame) : nx_Ov T (.native nf :: .java g :: below) below := by
  obtain ⟨g₀, hfr⟩ := X.frames_eq
  exact ⟨⟨X.here.running, X.here.runnable, X.here.alone⟩, State.cur_lt_of_frames hfr, ⟨[.native nf, .java g], by simp, rfl⟩⟩
theorem nx_stack {R : Room} {s : State} {m : MethodId} {args : Array Value} {meth : Method} {c : Code} {T : State} {locs : List Loc} {cells slots : Nat} (X : Stand p l e R s m args below meth c T locs cells slots) {g : JFrame} (hsize : g.locals.size = c.maxLocals) {nf : NFrame} (hnf : nf.words = 0) {K : Nat}
    (hK : 2 * g.monitorRoom + (g.stack.map fun v => v.category).sum + K ≤ R.locals) : (stackUse (.native nf :: .java g :: below)).2 + K ≤ (e.platform.stackLimits T.me).2 := by
  have h := X.stackAbove hsize hK
  rw [X.tail] at h
  rw [stackUse_light (.native nf) _ (fun f hf => by cases hf) hnf]
  exact h
theorem nx_frames {R : Room} {s : State} {m : MethodId} {args : Array Value} {meth : Method} {c : Code} {T : State} {locs : List Loc} {cells slots : Nat} (X : Stand p l e R s m args below meth c T locs cells slots) (g : JFrame) (nf : NFrame) {n : Nat} (hn : n + 1 < R.frames) :
    (Frame.native nf :: .java g :: below).length + n < (e.platform.stackLimits T.me).1 := by
  have h := X.framesAbove hn
  obtain ⟨g₀, hfr⟩ := X.frames_eq
  rw [hfr] at h
  simp only [List.length_cons] at h ⊢
  omega
theorem nx_may {R : Room} {s : State} {m : MethodId} {args : Array Value} {meth : Method} {c : Code} {T : State} {locs : List Loc} {cells slots : Nat} (X : Stand p l e R s m args below meth c T locs cells slots) {g : JFrame} (hsize : g.locals.size = c.maxLocals) {nf : NFrame} (hnf : nf.words = 0) (note : Frame) (hnote : ∀ f, note ≠ .java f) (hw : note.words = 0)
    (hK : 2 * g.monitorRoom + (g.stack.map fun v => v.category).sum + 10240 ≤ R.locals) :
    e.platform.stackBeyond ((((T.setFrames (note :: .native nf :: .java g :: below)).threads[T.cur]?).map (·.stackBytes)).getD 0) (T.setFrames (note :: .native nf :: .java g :: below)).frames = false ∧
      e.platform.vmThrowRoom ≤ e.platform.stackFree ((((T.setFrames (note :: .native nf :: .java g :: below)).threads[T.cur]?).map (·.stackBytes)).getD 0) (T.setFrames (note :: .native nf :: .java g :: below)).frames := by
  obtain ⟨g₀, hfr⟩ := X.frames_eq
  have hcur : T.cur < T.threads.size := State.cur_lt_of_frames hfr
  have hb : ((((T.setFrames (note :: .native nf :: .java g :: below)).threads[T.cur]?).map (·.stackBytes)).getD 0) = T.me.stackBytes := by
    rw [← State.stackBytes_setFrames T (note :: .native nf :: .java g :: below)]
    exact State.stackBytes_me (T.setFrames (note :: .native nf :: .java g :: below))
  have hA := nx_stack X hsize hnf hK
  have hlimit : (e.platform.stackLimits T.me).2 = (e.platform.limitsFor T.me.stackBytes).2 := rfl
  rw [hb, State.frames_setFrames _ hcur, Launch.admits_vmThrowRoom X.admits]
  unfold Platform.stackBeyond Platform.stackFree
  rw [stackUse_light _ _ hnote hw]
  refine ⟨decide_eq_false (by omega), by omega⟩
theorem nx_leave {s target : State} {a : Addr} {f : NFrame} {r : List Frame} (h : nx_Ov s (.native f :: r) below) (haw : f.awaiting = false) (hl : f.locked = none) (k : Steps p.tables e below (s.setFrames (.throwing a :: r)) target) : Steps p.tables e below (s.setFrames (.throwing a :: .native f :: r)) target := by
  have hf : (s.setFrames (.throwing a :: .native f :: r)).frames = .throwing a :: .native f :: r := State.frames_setFrames _ h.2.1
  refine nx_head h ?_
  have h1 : (stepThread p.tables e (s.setFrames (.throwing a :: .native f :: r))).1 = (s.setFrames (.throwing a :: .native f :: r)).setFrames (.throwing a :: r) := by
    generalize s.setFrames (.throwing a :: .native f :: r) = u at hf ⊢
    unfold stepThread
    simp only [hf]
    unfold stepThrowing
    simp only [haw, Bool.false_eq_true, if_false, hl]
    unfold vmDo
    generalize hr : Sem.go _ e false _ u = res
    obtain ⟨as, rfl, -⟩ := Sem.eq_ok_of hr (a := true) (s' := u) (acts' := []) (by simp [leaveIfLocked, unmarked, Action.isMark])
    rfl
  rw [h1, State.setFrames_setFrames]
  exact k
/-- the native method throws: its note over its frame -/
theorem nx_call {s target : State} {g : JFrame} {c : Code} (h : Jvm.At s g.method c below) {m : MethodId} {meth : Method} {k : Class} {row : NativeRow} {args : Array Value} {cn mn md : String} {st : Bool} {ps : List FieldType} (acts : List Action)
    (N : NativeOf s.vm m k meth cn mn md st ps) (hrow : NativeRow.find? p.tables.natives cn mn md = some row)
    (hroom : e.platform.stackFull (((s.setTop g).threads[(s.setTop g).cur]?).getD { frames := [] }) (s.setTop g).frames (nativeFrameWords cn mn (operandWords args.toList)) = false) (hseen : seenByNative meth args = args) {cls : String} {msg : Option String}
    (hw : ∀ E : CtlPost, (∀ acts', E (.throwNew cls msg) acts' ((s.setTop g).pushFrame (.native { method := m, args := args, locked := none }))) → wp (row.sem args) (fun _ _ _ _ => False) E e false [] ((s.setTop g).pushFrame (.native { method := m, args := args, locked := none })))
    (hrest : Steps p.tables e below (((s.setTop g).pushFrame (.native { method := m, args := args, locked := none })).pushFrame (.throwNew cls msg none)) target) :
    Steps p.tables e below (doInvoke e (s.setTop g) acts m args).1 target := by
  have hm : (s.setTop g).vm.method? m = some meth := by
    show s.vm.method? m = some meth
    simp [Vm.method?, N.cls, N.meth]
  have hroom' : e.platform.stackFull (((s.setTop g).threads[(s.setTop g).cur]?).getD { frames := [] }) (s.setTop g).frames (nativeFrameWords ((((s.setTop g).vm.classes[m.cls]?).map (·.name)).getD "") meth.name (operandWords args.toList)) = false := by
    have : (((s.setTop g).vm.classes[m.cls]?).map (·.name)).getD "" = cn := by
      show ((s.vm.classes[m.cls]?).map (·.name)).getD "" = cn
      rw [N.cls]
      exact N.className
    rw [this, N.name]
    exact hroom
  rw [(Fast.doInvoke_native (s := s.setTop g) (e := e) (acts := acts) (args := args) hm N.native N.noCode N.noLock hroom').1, hseen]
  have hfe := frames_entered (g := g) h.top (.native { method := m, args := args, locked := none })
  obtain ⟨mid, hmid⟩ := h.above
  refine Steps.head ⟨h.running, by simpa using h.runnable, by simpa using h.alone⟩ ⟨.native { method := m, args := args, locked := none } :: .java g :: mid, by rw [hfe, hmid]; rfl, by simp, by simp⟩ ?_
  rw [stepThread_native (f := { method := m, args := args, locked := none }) (k := k) (x := meth) (row := row) hfe N.cls N.meth N.boot (by rw [N.className, N.name, N.desc]; exact hrow) rfl]
  have hw1 : wpRun (row.sem args) (fun _ _ _ => False) (fun x s₁ _ => x = .throwNew cls msg ∧ s₁ = (s.setTop g).pushFrame (.native { method := m, args := args, locked := none })) e ((s.setTop g).pushFrame (.native { method := m, args := args, locked := none })) := hw _ (fun _ => ⟨rfl, rfl⟩)
  have hw2 := (wpRun_iff_run _ _ _ _ _).mp hw1
  cases hr : (row.sem args).run e ((s.setTop g).pushFrame (.native { method := m, args := args, locked := none })) with
  | ok v s₁ acts₁ => rw [hr] at hw2; exact hw2.elim
  | ctl x s₁ acts₁ =>
    rw [hr] at hw2
    cases x <;> first
      | exact hw2.elim
      | (obtain ⟨h1, h2⟩ := hw2; cases h1; subst h2; exact hrest)
      | (obtain ⟨h1, -⟩ := hw2; cases h1)
end NXA
/-- what a copy says whose run leaves an array -/
def nx_Say (ty : FieldType) (ns nd : Nat) (sp dp n : Int32) (what : String) : Prop :=
  (sp.toInt + n.toInt > ns ∧ what = (toString "last source index " ++ toString (sp.toInt + n.toInt) ++ toString " out of bounds for " ++ toString (toString (Native.java_lang_System.arraycopy.kindName ty) ++ toString "[" ++ toString ns ++ toString "]") : String)) ∨
  (¬ sp.toInt + n.toInt > ns ∧ dp.toInt + n.toInt > nd ∧ what = (toString "last destination index " ++ toString (dp.toInt + n.toInt) ++ toString " out of bounds for " ++ toString (toString (Native.java_lang_System.arraycopy.kindName ty) ++ toString "[" ++ toString nd ++ toString "]") : String))
theorem nx_wp {Q : Option Value → Pre} {E : CtlPost} {e : Env} {d : Bool} {acts : List Action} {s : State} {src dst : Addr} {sp dp n : Int32} {cs cd : Cell} {ks kd : Class} {sComp dComp : ClassId} {ty : FieldType} {what : String}
    (hs : s.heap[src]? = some cs) (hd : s.heap[dst]? = some cd) (hsobj : ∀ k, cs.vm ≠ .statics k) (hdobj : ∀ k, cd.vm ≠ .statics k)
    (hks : s.vm.classes[cs.cls]? = some ks) (hkd : s.vm.classes[cd.cls]? = some kd) (hsk : ks.kind = .array sComp ty) (hdk : kd.kind = .array dComp ty)
    (hty : ((refKind ty != refKind ty) || (!refKind ty && ty != ty)) = false) (h1 : ¬ sp < 0) (h2 : ¬ dp < 0) (h3 : ¬ n < 0) (hq : nx_Say ty cs.slots.size cd.slots.size sp dp n what)
    (hE : E (.throwNew "java/lang/ArrayIndexOutOfBoundsException" (some ("arraycopy: " ++ what))) acts s) :
    wp (Native.java_lang_System.arraycopy.sem #[.ref src, .int sp, .ref dst, .int dp, .int n]) Q E e d acts s := by
  rw [Native.java_lang_System.arraycopy.sem_refs]
  unfold Native.java_lang_System.arraycopy.behind
  simp only [wp_bind', W.classOf, W.theClass, hs, hd, hks, hkd, Option.some.injEq, exists_eq_left', hsk, hdk]
  refine ⟨hsobj, hdobj, ?_⟩
  unfold refKind at hty
  simp only [hty, Bool.false_eq_true, if_false]
  simp only [wp_bind', W.sizeOf, hs, hd, Option.some.injEq, exists_eq_left', h1, h2, h3, if_false]
  rcases hq with ⟨h4, rfl⟩ | ⟨h4, h5, rfl⟩
  · simp only [h4, if_true, wp_bind', W.mark, W.throwNew]
    exact hE
  · simp only [h4, h5, if_true, if_false, wp_bind', W.mark, W.throwNew]
    exact hE
theorem nx_kind (ty : FieldType) : (Native.java_lang_System.arraycopy.kindName ty).toList.length ≤ 12 := by
  cases ty <;> first
    | decide
    | (show ("object array").toList.length ≤ 12; decide)
theorem nx_int {x : Int} (h0 : 0 ≤ x) (h : x < 10 ^ 10) : (toString x).toList.length ≤ 10 := by
  obtain ⟨m, rfl⟩ := Int.eq_ofNat_of_zero_le h0
  have := nat_print (n := m) (by omega)
  show (toString m).toList.length ≤ 10
  exact this
theorem nx_len {ty : FieldType} {ns nd : Nat} {sp dp n : Int32} {what : String} (hq : nx_Say ty ns nd sp dp n what) (h1 : ¬ sp < 0) (h2 : ¬ dp < 0) (h3 : ¬ n < 0) (hs : ns < 2 ^ 31) (hd : nd < 2 ^ 31) : what.toList.length ≤ 90 := by
  have b1 := Int32.toInt_lt sp
  have b2 := Int32.toInt_lt dp
  have b3 := Int32.toInt_lt n
  have nn : ∀ z : Int32, ¬ z < 0 → 0 ≤ z.toInt := by
    intro z hz
    have := Int32.not_lt.mp hz
    simpa using Int32.le_iff_toInt_le.mp this
  have c1 := nn sp h1
  have c2 := nn dp h2
  have c3 := nn n h3
  have a3 := nx_kind ty
  rcases hq with ⟨-, rfl⟩ | ⟨-, -, rfl⟩
  · show (toString "last source index " ++ toString (sp.toInt + n.toInt) ++ toString " out of bounds for " ++ toString (toString (Native.java_lang_System.arraycopy.kindName ty) ++ toString "[" ++ toString ns ++ toString "]")).toList.length ≤ 90
    have e1 : (toString (toString (Native.java_lang_System.arraycopy.kindName ty) ++ toString "[" ++ toString ns ++ toString "]")) = (Native.java_lang_System.arraycopy.kindName ty) ++ "[" ++ toString ns ++ "]" := rfl
    rw [e1]
    simp only [String.toList_append, List.length_append]
    have a1 : (toString "last source index ").toList.length = 18 := by decide
    have a2 : (toString " out of bounds for ").toList.length = 19 := by decide
    have a4 := nx_int (x := sp.toInt + n.toInt) (by omega) (by omega)
    have a5 := nat_print (n := ns) (by omega)
    have a6 : ("[").toList.length = 1 := by decide
    have a7 : ("]").toList.length = 1 := by decide
    omega
  · show (toString "last destination index " ++ toString (dp.toInt + n.toInt) ++ toString " out of bounds for " ++ toString (toString (Native.java_lang_System.arraycopy.kindName ty) ++ toString "[" ++ toString nd ++ toString "]")).toList.length ≤ 90
    have e1 : (toString (toString (Native.java_lang_System.arraycopy.kindName ty) ++ toString "[" ++ toString nd ++ toString "]")) = (Native.java_lang_System.arraycopy.kindName ty) ++ "[" ++ toString nd ++ "]" := rfl
    rw [e1]
    simp only [String.toList_append, List.length_append]
    have a1 : (toString "last destination index ").toList.length = 23 := by decide
    have a2 : (toString " out of bounds for ").toList.length = 19 := by decide
    have a4 := nx_int (x := dp.toInt + n.toInt) (by omega) (by omega)
    have a5 := nat_print (n := nd) (by omega)
    have a6 : ("[").toList.length = 1 := by decide
    have a7 : ("]").toList.length = 1 := by decide
    omega
theorem nx_bytes {what : String} (h : what.toList.length ≤ 90) : (stringBytes (stringToUtf16 ("arraycopy: " ++ what))).size ≤ 410 := by
  have b1 := stringBytes_size_le (stringToUtf16 ("arraycopy: " ++ what))
  have b2 := utf16_size_le ("arraycopy: " ++ what)
  have b3 : ("arraycopy: " ++ what).toList.length ≤ 101 := by
    rw [String.toList_append, List.length_append]
    have a1 : ("arraycopy: ").toList.length = 11 := by decide
    omega
  omega
theorem nx_told (what : String) : (("arraycopy: " ++ what) == notModelled) = false := by
  rw [beq_eq_false_iff_ne]
  intro h
  have h2 := congrArg String.toList h
  have h3 : ("arraycopy: " ++ what).toList = 'a' :: ("rraycopy: ".toList ++ what.toList) := by
    rw [String.toList_append]
    rfl
  rw [h3] at h2
  have h4 : notModelled.toList = '\u0000' :: " a message that is not modelled".toList := by decide
  rw [h4] at h2
  simp at h2
