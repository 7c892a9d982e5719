/-! ===== rows of the law's own: the script, the end ===== -/
set_option maxRecDepth 100000
section EPL
variable {p : Program} {l : Launch} {e : Env} {R : Room} {s : State} {m : MethodId} {args : Array Value} {below : List Frame} {meth : Method} {c : Code} {H : Heap} {locs : List Loc} {cells slots : Nat} {Q : State → Prop}
variable {cc : ByteArray} {pc : Nat} {ls : Array Slot} {rest : List Value} {G : EG} {cl : List vw_C} {h : Hp}
theorem ep_sX (hexec : p.tables.exec = Jvm.exec) (hb : c.code = cc) {b L : Nat} {xs : Nat → Int32} (hX : va_X b L xs s s.heap) (hbl : b < s.heap.size) (hbA : ¬ ep_A G b) (hw : ep_W G cl h s H locs) {i v : Int32} (ev : sX L xs i = some v) (hdg : decode cc pc = .ok (.iaload, 1))
    (kk : W p l e R s m args below meth c H locs cells slots Q (F0 m (pc + 1) ls (.int v :: rest))) : W p l e R s m args below meth c H locs cells slots Q (F0 m pc ls (.int i :: .ref b :: rest)) := by
  unfold sX at ev
  obtain ⟨⟨h1, h2⟩, ev⟩ := oi_c ev
  cases ev
  exact va_sld hexec hb hX hbl hbA hw.2 (fun q => q.elim h1 (fun z => absurd h2 (Nat.not_lt.mpr z))) hdg kk
theorem ep_lawEnd {b : Nat} (hx : p.tables.exec = Jvm.exec) (hb : c.code = code) (hr : meth.sig.returnType = ret) (hlocks : meth.locks = false) (hbase : G.2.2.1 = s.heap.size) (hw : ep_W G cl h s H locs) (h1 : cells ≤ 603072) (h2 : slots ≤ 7262314) (hdg : decode code pc = .ok (.ireturn, 1)) :
    W p l e room_1 s m #[Value.ref b] below meth c H locs cells slots (lw_Z below #[Value.ref b] s) (F0 m pc ls [.int (iI 1)]) := by
  refine W.widen (k := 603072) (n := 7262314) h1 h2 ?_
  intro T hT X
  have X' : Stand p l e room_1 s m #[Value.ref b] below meth c T [] 603072 7262314 := ⟨X.admits, X.cas, X.clock, X.frames, X.room, X.hears, X.method, X.code, X.here, X.tail, X.warmed, X.limits, X.bytes, X.same.weaken (fun y hy hlt => absurd hlt (Nat.not_lt.mpr (by have := hw.2.2.2 y hy; unfold ep_A at this; rw [hbase] at this; exact this))) (Nat.le_refl _) (Nat.le_refl _)⟩
  exact lw_ret (b := b) hx hb hr hlocks (H := H) hdg T hT X'
end EPL
