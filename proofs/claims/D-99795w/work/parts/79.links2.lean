/-! ===== LINKS: new, interface, nest mates, inherited, super (by program) ===== -/
set_option maxRecDepth 100000
theorem lw_F {own : String} {idx : Nat} {C : String} {x y : MethodName} {b : ByteArray} {L : Nat} {r : Option FieldType} (h1 : Cond.methodLink own idx x ∈ lw_all) (h2 : Cond.selects C x y ∈ lw_all) (h3 : Cond.instanceMethod y ∈ lw_all) (h4 : Cond.initialized y.cls ∈ lw_all) (h5 : Cond.code y b L r ∈ lw_all) : GoodIn lw_all (va_wsF own idx C x y (ws_ y b L r)) := lw_app (a := [.methodLink own idx x, .selects C x y, .instanceMethod y, .initialized y.cls]) (List.forall_mem_cons.mpr ⟨h1, List.forall_mem_cons.mpr ⟨h2, List.forall_mem_cons.mpr ⟨h3, List.forall_mem_cons.mpr ⟨h4, fun _ h => absurd h List.not_mem_nil⟩⟩⟩⟩) (lw_meth h5)
theorem lw_SU {own : String} {idx : Nat} {y : MethodName} {b : ByteArray} {L : Nat} {r : Option FieldType} (h1 : Cond.methodLink own idx y ∈ lw_all) (h2 : Cond.sameMethod y.cls y.cls y.name y.desc ∈ lw_all) (h3 : Cond.superclass own y.cls ∈ lw_all) (h4 : Cond.instanceMethod y ∈ lw_all) (h6 : Cond.initialized y.cls ∈ lw_all) (h5 : Cond.code y b L r ∈ lw_all) : GoodIn lw_all (va_wsSU own idx y (ws_ y b L r)) := lw_app (a := [.methodLink own idx y, .sameMethod y.cls y.cls y.name y.desc, .superclass own y.cls, .instanceMethod y, .initialized y.cls]) (List.forall_mem_cons.mpr ⟨h1, List.forall_mem_cons.mpr ⟨h2, List.forall_mem_cons.mpr ⟨h3, List.forall_mem_cons.mpr ⟨h4, List.forall_mem_cons.mpr ⟨h6, fun _ h => absurd h List.not_mem_nil⟩⟩⟩⟩⟩) (lw_meth h5)
theorem nJ6_18 : ev_NL "java/lang/StringBuilder" 18 22 4 := ⟨RJ7, TJ7, tyJ7, rfl, by decide, in_J7, tyJ7_ok, by decide, q624, q625, q149⟩
theorem nX0_39 : ev_NL "PepperTables" 39 1 8 := ⟨RX1, TX1, tyX1, rfl, by decide, in_X1, tyX1_ok, by decide, q177, q178, q137⟩
theorem nX0_46 : ev_NL "PepperTables" 46 3 7 := ⟨RX3, TX3, tyX3, rfl, by decide, in_X3, tyX3_ok, by decide, q282, q283, q142⟩
theorem nX0_4 : ev_NL "PepperTables" 4 20 3 := ⟨RJ2, TJ2, tyJ2, rfl, by decide, in_J2, tyJ2_ok, by decide, q344, q184, q140⟩
theorem nX0_108 : ev_NL "PepperTables" 108 5 11 := ⟨RX5, TX5, tyX5, rfl, by decide, in_X5, tyX5_ok, by decide, q437, q438, q146⟩
theorem nX0_337 : ev_NL "PepperTables" 337 13 6 := ⟨RX13, TX13, tyX13, rfl, by decide, in_X13, tyX13_ok, by decide, q1548, q1549, q168⟩
theorem nX1_7 : ev_NL "PepperTables$Book" 7 20 3 := ⟨RJ2, TJ2, tyJ2, rfl, by decide, in_J2, tyJ2_ok, by decide, q183, q184, q140⟩
theorem nX1_24 : ev_NL "PepperTables$Book" 24 2 6 := ⟨RX2, TX2, tyX2, rfl, by decide, in_X2, tyX2_ok, by decide, q212, q213, q141⟩
theorem iX10_13_X10 : ev_FF "PepperTables$Not" 13 mX10_of 10 1 := ⟨_, rfl, by decide, by decide +kernel, lw_F q1268 q1262 q1264 q162 q1266, by decide +kernel⟩
theorem iX10_13_X11 : ev_FF "PepperTables$Not" 13 mX11_of 11 1 := ⟨_, rfl, by decide, by decide +kernel, lw_F q1268 q1278 q1280 q165 q1282, by decide +kernel⟩
theorem iX10_13_X12 : ev_FF "PepperTables$Not" 13 mX12_of 12 1 := ⟨_, rfl, by decide, by decide +kernel, lw_F q1268 q1270 q1272 q166 q1274, by decide +kernel⟩
theorem iX12_20_X10 : ev_FF "PepperTables$Pair" 20 mX10_of 10 1 := ⟨_, rfl, by decide, by decide +kernel, lw_F q1276 q1262 q1264 q162 q1266, by decide +kernel⟩
theorem iX12_20_X11 : ev_FF "PepperTables$Pair" 20 mX11_of 11 1 := ⟨_, rfl, by decide, by decide +kernel, lw_F q1276 q1278 q1280 q165 q1282, by decide +kernel⟩
theorem iX12_20_X12 : ev_FF "PepperTables$Pair" 20 mX12_of 12 1 := ⟨_, rfl, by decide, by decide +kernel, lw_F q1276 q1270 q1272 q166 q1274, by decide +kernel⟩
theorem iX3_115_X10 : ev_FF "PepperTables$Table" 115 mX10_of 10 1 := ⟨_, rfl, by decide, by decide +kernel, lw_F q1222 q1262 q1264 q162 q1266, by decide +kernel⟩
theorem iX3_115_X11 : ev_FF "PepperTables$Table" 115 mX11_of 11 1 := ⟨_, rfl, by decide, by decide +kernel, lw_F q1222 q1278 q1280 q165 q1282, by decide +kernel⟩
theorem iX3_115_X12 : ev_FF "PepperTables$Table" 115 mX12_of 12 1 := ⟨_, rfl, by decide, by decide +kernel, lw_F q1222 q1270 q1272 q166 q1274, by decide +kernel⟩
theorem nX5_21 : ev_NL "PepperTables$Reader" 21 1 8 := ⟨RX1, TX1, tyX1, rfl, by decide, in_X1, tyX1_ok, by decide, q444, q178, q137⟩
theorem nX5_53 : ev_NL "PepperTables$Reader" 53 21 4 := ⟨RJ6, TJ6, tyJ6, rfl, by decide, in_J6, tyJ6_ok, by decide, q496, q497, q148⟩
theorem nX5_172 : ev_NL "PepperTables$Reader" 172 6 1 := ⟨RX6, TX6, tyX6, rfl, by decide, in_X6, tyX6_ok, by decide, q959, q960, q156⟩
theorem nX5_204 : ev_NL "PepperTables$Reader" 204 7 2 := ⟨RX7, TX7, tyX7, rfl, by decide, in_X7, tyX7_ok, by decide, q712, q713, q157⟩
theorem nX5_75 : ev_NL "PepperTables$Reader" 75 8 8 := ⟨RX8, TX8, tyX8, rfl, by decide, in_X8, tyX8_ok, by decide, q796, q797, q160⟩
theorem nX5_213 : ev_NL "PepperTables$Reader" 213 9 5 := ⟨RX9, TX9, tyX9, rfl, by decide, in_X9, tyX9_ok, by decide, q968, q969, q161⟩
theorem nX5_249 : ev_NL "PepperTables$Reader" 249 12 3 := ⟨RX12, TX12, tyX12, rfl, by decide, in_X12, tyX12_ok, by decide, q1065, q1066, q166⟩
theorem nX5_257 : ev_NL "PepperTables$Reader" 257 10 1 := ⟨RX10, TX10, tyX10, rfl, by decide, in_X10, tyX10_ok, by decide, q1017, q1018, q162⟩
theorem nX5_298 : ev_NL "PepperTables$Reader" 298 11 1 := ⟨RX11, TX11, tyX11, rfl, by decide, in_X11, tyX11_ok, by decide, q1055, q1056, q165⟩
theorem lX0_41 : ev_NI "PepperTables" 41 mX1_init 0 := ⟨_, lw_meth q181, q137, q179, q180, rfl, rfl, by decide +kernel⟩
theorem lX0_48 : ev_NI "PepperTables" 48 mX3_init 0 := ⟨_, lw_meth q286, q142, q284, q285, rfl, rfl, by decide +kernel⟩
theorem lX0_110 : ev_NI "PepperTables" 110 mX5_init 1 := ⟨_, lw_meth q441, q146, q439, q440, rfl, rfl, by decide +kernel⟩
theorem lX1_26 : ev_NI "PepperTables$Book" 26 mX2_init 0 := ⟨_, lw_meth q216, q141, q214, q215, rfl, rfl, by decide +kernel⟩
theorem lX5_23 : ev_NI "PepperTables$Reader" 23 mX1_init 0 := ⟨_, lw_meth q181, q137, q445, q180, rfl, rfl, by decide +kernel⟩
theorem lX5_151 : ev_NS "PepperTables$Reader" 151 mX0_find 2 := ⟨_, lw_meth q865, q136, q863, q864, by decide +kernel⟩
theorem fX13_29 : ev_FN "PepperTables$Noise" 29 0 8 .int := ⟨RX0, _, TX0, 24, tyX0, rfl, by decide, by decide, rfl, in_X0, q356⟩
theorem fX13_35 : ev_FN "PepperTables$Noise" 35 0 20 (.array (.array .int)) := ⟨RX0, _, TX0, 24, tyX0, rfl, by decide, by decide, rfl, in_X0, q369⟩
theorem fX5_32 : ev_FN "PepperTables$Reader" 32 0 1 .int := ⟨RX0, _, TX0, 24, tyX0, rfl, by decide, by decide, rfl, in_X0, q348⟩
theorem fX5_35 : ev_FN "PepperTables$Reader" 35 0 0 (.array .byte) := ⟨RX0, _, TX0, 24, tyX0, rfl, by decide, by decide, rfl, in_X0, q346⟩
theorem lJ5_83 : ev_UL "java/lang/AbstractStringBuilder" 83 yJ5_isLatin1 mJ5_isLatin1 21 0 := ⟨_, _, _, _, rfl, by decide, lw_meth q573, ⟨q569, q571, q570, q573⟩, Or.inl q572, q570, q147, by decide +kernel⟩
theorem lJ5_100 : ev_UL "java/lang/AbstractStringBuilder" 100 yJ5_ensureCapacityInternal mJ5_ensureCapacityInternal 21 1 := ⟨_, _, _, _, rfl, by decide, lw_meth q537, ⟨q534, q2405, q536, q537⟩, Or.inr ⟨rfl, q535, ⟨"java/lang/AbstractStringBuilder", "isLatin1", "()Z"⟩, rfl, q572⟩, q536, q147, by decide +kernel⟩
theorem lJ7_549 : ev_UL "java/lang/String" 549 yJ5_length mJ6_length 21 0 := ⟨_, _, _, _, rfl, by decide, lw_meth q643, ⟨q638, q640, q639, q645⟩, Or.inl q641, q642, q148, by decide +kernel⟩
theorem lJ7_552 : ev_UL "java/lang/String" 552 yJ5_getValue mJ5_getValue 21 0 := ⟨_, _, _, _, rfl, by decide, lw_meth q637, ⟨q633, q635, q634, q637⟩, Or.inl q636, q634, q147, by decide +kernel⟩
theorem lJ7_1047 : ev_UL "java/lang/String" 1047 yJ5_isLatin1 mJ5_isLatin1 21 0 := ⟨_, _, _, _, rfl, by decide, lw_meth q573, ⟨q646, q571, q570, q573⟩, Or.inl q572, q570, q147, by decide +kernel⟩
theorem lJ6_50 : ev_PL "java/lang/StringBuilder" 50 mJ5_append 21 1 := ⟨_, rfl, by decide, lw_SU q531 q2404 q526 q532 q147 q533, by decide +kernel⟩
theorem lJ6_343 : ev_PL "java/lang/StringBuilder" 343 mJ5_length 21 0 := ⟨_, rfl, by decide, lw_SU q644 q640 q526 q639 q147 q645, by decide +kernel⟩
