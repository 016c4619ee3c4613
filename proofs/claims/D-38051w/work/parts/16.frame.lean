/-! a contract over fewer cells serves over more -/
set_option maxRecDepth 100000
theorem gB0_sub {g : gG} {Wc W0 : va_W} {sz : Nat} {s : State} (isC : List Nat) (hn : va_nd isC = true) (hC : isC.map (fun i => W0[i]?) = Wc.map some) (h : gB0 g W0 sz s) : gB0 g Wc sz s ∧ ∀ q, va_A Wc sz q → va_A W0 sz q := by
  obtain ⟨h1, h2, h3, h4, h5, h6⟩ := h
  have hsub : ∀ q, va_A Wc sz q → va_A W0 sz q := by
    intro q hq
    subst h1
    exact va_free h4.self (va_S.rf (H0 := s.heap)) (fun q h => Or.inr h) isC hC q hq
  exact ⟨⟨h1, h2.pick isC hC, h3, h4.sub isC hn hC, h5, h6.narrow hsub⟩, hsub⟩
theorem gE_frame {g : gG} {Wc W0 W1 : va_W} {sz : Nat} {s t : State} (isC : List Nat) (hn : va_nd isC = true) (hC : isC.map (fun i => W0[i]?) = Wc.map some) (hA1 : (W1.take isC.length).map Prod.fst = Wc.map Prod.fst) (h : gB0 g W0 sz s) (hF : va_F (va_A Wc sz) s t) (hE : gE g (va_A Wc sz) W1 t) : gE g (va_A W0 sz) (gput W0 isC W1) t := by
  have hs := (gB0_sub isC hn hC h).2
  obtain ⟨h1, h2, h3, h4, h5, h6⟩ := h
  subst h1
  exact gput_join h2 h4.self isC hn hC hA1 hF.2 hs hE.1 hE.2
theorem va_F_mono {A B : Nat → Prop} {s t : State} (h : va_F A s t) (hAB : ∀ q, A q → B q) : va_F B s t := ⟨h.1, fun q h1 h2 => h.2 q h1 (fun z => h2 (hAB q z))⟩
theorem g_frame {l : Launch} {y : MethodName} {ws : List Cond} {rm : Room} {g : gG} {Wc W0 : va_W} {av : List Value} {sz : Nat} {Qc Qd : Array Value → State → Outcome → State → Prop} {mc ms : Nat} (isC : List Nat) (hn : va_nd isC = true) (hC : isC.map (fun i => W0[i]?) = Wc.map some) (h : Met l y ws rm (gPre g Wc av sz) Qc mc ms (va_A Wc sz)) (hQ : ∀ (a : Array Value) (s : State) (o : Outcome) (t : State), gB0 g W0 sz s → Qc a s o t → Qd a s o t) : Met l y ws rm (gPre g W0 av sz) Qd mc ms (va_A W0 sz) := by
  intro p e ha hc hk s m args below hf happ hP hK
  have hs := gB0_sub isC hn hC hP.2
  obtain ⟨n, o, h1, h2, h3, hq, L, hF, hL⟩ := h p e ha hc hk s m args below hf happ ⟨hP.1, hs.1⟩ hK
  exact ⟨n, o, h1, h2, h3, hQ _ _ _ _ hP.2 hq, L, hF, fun q z => hs.2 _ (hL q z)⟩
theorem g_frame_i {S : Type} {l : Launch} {y : MethodName} {cc : ByteArray} {L : Nat} {ret : FieldType} {fr lo mc ms : Nat} {g : gG} {Wc W0 : va_W} {av : List Value} {post : Int32 → S → Prop} {W1 : S → va_W} (h : gMi l y cc L ret fr lo mc ms g Wc av post W1) (isC : List Nat) (hn : va_nd isC = true) (hC : isC.map (fun i => W0[i]?) = Wc.map some) (hA1 : ∀ u : S, ((W1 u).take isC.length).map Prod.fst = Wc.map Prod.fst) : gMi l y cc L ret fr lo mc ms g W0 av post (fun u => gput W0 isC (W1 u)) := by
  intro sz
  refine g_frame isC hn hC (h sz) (fun a s o t hB hq => ?_)
  obtain ⟨⟨r, u, ho, hp, hE⟩, hF⟩ := hq
  exact ⟨⟨r, u, ho, hp, gE_frame isC hn hC (hA1 u) hB hF hE⟩, va_F_mono hF (gB0_sub isC hn hC hB).2⟩
theorem g_frame_v {S : Type} {l : Launch} {y : MethodName} {cc : ByteArray} {L : Nat} {fr lo mc ms : Nat} {g : gG} {Wc W0 : va_W} {av : List Value} {post : S → Prop} {W1 : S → va_W} (h : gMv l y cc L fr lo mc ms g Wc av post W1) (isC : List Nat) (hn : va_nd isC = true) (hC : isC.map (fun i => W0[i]?) = Wc.map some) (hA1 : ∀ u : S, ((W1 u).take isC.length).map Prod.fst = Wc.map Prod.fst) : gMv l y cc L fr lo mc ms g W0 av post (fun u => gput W0 isC (W1 u)) := by
  intro sz
  refine g_frame isC hn hC (h sz) (fun a s o t hB hq => ?_)
  obtain ⟨⟨u, ho, hp, hE⟩, hF⟩ := hq
  exact ⟨⟨u, ho, hp, gE_frame isC hn hC (hA1 u) hB hF hE⟩, va_F_mono hF (gB0_sub isC hn hC hB).2⟩
theorem g_xframe {l : Launch} {y : MethodName} {ws : List Cond} {rm : Room} {g : gG} {Wc W0 : va_W} {av : List Value} {sz : Nat} {Qc Qd : Array Value → State → Outcome → State → Prop} {xp : String → Prop} {mc ms : Nat} (isC : List Nat) (hn : va_nd isC = true) (hC : isC.map (fun i => W0[i]?) = Wc.map some) (h : vx_Met l y ws rm (gPre g Wc av sz) Qc (gXC g Wc sz xp) mc ms (va_A Wc sz)) (hQ : ∀ (a : Array Value) (s : State) (o : Outcome) (t : State), gB0 g W0 sz s → Qc a s o t → Qd a s o t) : vx_Met l y ws rm (gPre g W0 av sz) Qd (gXC g W0 sz xp) mc ms (va_A W0 sz) := by
  intro p e ha hc hk s m args below hf happ hP hK
  have hs := gB0_sub isC hn hC hP.2
  obtain ⟨n, o, h1, h2, h3, hq⟩ := h p e ha hc hk s m args below hf happ ⟨hP.1, hs.1⟩ hK
  refine ⟨n, o, h1, h2, h3, ?_⟩
  rcases hq with ⟨hq, L, hF, hL⟩ | ⟨q, ho, E, ce, L, ⟨u, -, ⟨hx, hE⟩, hF⟩, g1, g2, g3, g4, g5, hL⟩
  · exact Or.inl ⟨hQ _ _ _ _ hP.2 hq, L, hF, fun q z => hs.2 _ (hL q z)⟩
  · refine Or.inr ⟨q, ho, E, ce, L, ⟨(), trivial, ⟨hx, ?_⟩, va_F_mono hF hs.2⟩, g1, g2, g3, g4, g5, fun z hz => hs.2 _ (hL z hz)⟩
    have hB := hP.2
    obtain ⟨b1, b2, b3, b4, b5, b6⟩ := hB
    subst b1
    exact ⟨gsame_join b2 b4 isC hC hF.2 hE.1, b4.self⟩
theorem g_xframe_i {S : Type} {l : Launch} {y : MethodName} {cc : ByteArray} {L : Nat} {ret : FieldType} {fr lo mc ms : Nat} {g : gG} {Wc W0 : va_W} {av : List Value} {post : Int32 → S → Prop} {W1 : S → va_W} {xp : String → Prop} (h : gXi l y cc L ret fr lo mc ms g Wc av post W1 xp) (isC : List Nat) (hn : va_nd isC = true) (hC : isC.map (fun i => W0[i]?) = Wc.map some) (hA1 : ∀ u : S, ((W1 u).take isC.length).map Prod.fst = Wc.map Prod.fst) : gXi l y cc L ret fr lo mc ms g W0 av post (fun u => gput W0 isC (W1 u)) xp := by
  intro sz
  refine g_xframe isC hn hC (h sz) (fun a s o t hB hq => ?_)
  obtain ⟨⟨r, u, ho, hp, hE⟩, hF⟩ := hq
  exact ⟨⟨r, u, ho, hp, gE_frame isC hn hC (hA1 u) hB hF hE⟩, va_F_mono hF (gB0_sub isC hn hC hB).2⟩
