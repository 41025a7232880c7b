/-! facts of the pool: fields (fl_), classes to make (nl_), descriptors (dn_) -/
set_option maxRecDepth 100000
theorem fl_X1_37 : FL "FlockHuts" 37 0 0 (.object "FlockHuts$Field") false false := ⟨RX1, TX1, 8, "FlockHuts", rfl, in_X1, ⟨tyX1, tyX1_ok⟩, nmX1, by decide, q244, Or.inl rfl, tyX1_ok 0 (by decide), rfl, fun h => nomatch h⟩
theorem fl_X1_44 : FL "FlockHuts" 44 0 1 (.object "java/util/ArrayDeque") true false := ⟨RX1, TX1, 8, "FlockHuts", rfl, in_X1, ⟨tyX1, tyX1_ok⟩, nmX1, by decide, q245, Or.inl rfl, tyX1_ok 1 (by decide), rfl, fun _ => ⟨rfl, rfl⟩⟩
theorem fl_X1_51 : FL "FlockHuts" 51 0 3 (.object "java/lang/StringBuilder") false false := ⟨RX1, TX1, 8, "FlockHuts", rfl, in_X1, ⟨tyX1, tyX1_ok⟩, nmX1, by decide, q247, Or.inl rfl, tyX1_ok 3 (by decide), rfl, fun h => nomatch h⟩
theorem fl_X1_57 : FL "FlockHuts" 57 0 4 (.object "java/lang/String") false false := ⟨RX1, TX1, 8, "FlockHuts", rfl, in_X1, ⟨tyX1, tyX1_ok⟩, nmX1, by decide, q248, Or.inl rfl, tyX1_ok 4 (by decide), rfl, fun h => nomatch h⟩
theorem fl_X1_61 : FL "FlockHuts" 61 0 6 .int false false := ⟨RX1, TX1, 8, "FlockHuts", rfl, in_X1, ⟨tyX1, tyX1_ok⟩, nmX1, by decide, q250, Or.inl rfl, tyX1_ok 6 (by decide), rfl, fun h => nomatch h⟩
theorem fl_X1_92 : FL "FlockHuts" 92 0 7 (.object "FlockHuts$Refused") false false := ⟨RX1, TX1, 8, "FlockHuts", rfl, in_X1, ⟨tyX1, tyX1_ok⟩, nmX1, by decide, q251, Or.inl rfl, tyX1_ok 7 (by decide), rfl, fun h => nomatch h⟩
theorem fl_X1_103 : FG "FlockHuts" 103 1 0 true := ⟨RX2, TX2, 7, "FlockHuts$Field", rfl, in_X2, by decide, ⟨_, q163⟩, Or.inl rfl⟩
theorem fl_X1_131 : FG "FlockHuts" 131 3 0 true := ⟨RX4, TX4, 4, "FlockHuts$Sheep", rfl, in_X4, by decide, ⟨_, q469⟩, Or.inl rfl⟩
theorem fl_X1_136 : FG "FlockHuts" 136 3 1 true := ⟨RX4, TX4, 4, "FlockHuts$Sheep", rfl, in_X4, by decide, ⟨_, q473⟩, Or.inl rfl⟩
theorem fl_X1_139 : FL "FlockHuts" 139 3 2 .int false true := ⟨RX4, TX4, 4, "FlockHuts$Sheep", rfl, in_X4, ⟨tyX4, tyX4_ok⟩, nmX4, by decide, ⟨_, q477⟩, Or.inl rfl, tyX4_ok 2 (by decide), rfl, fun h => nomatch h⟩
theorem fl_X1_142 : FL "FlockHuts" 142 3 3 .int false true := ⟨RX4, TX4, 4, "FlockHuts$Sheep", rfl, in_X4, ⟨tyX4, tyX4_ok⟩, nmX4, by decide, ⟨_, q482⟩, Or.inl rfl, tyX4_ok 3 (by decide), rfl, fun h => nomatch h⟩
theorem fl_X1_156 : FG "FlockHuts" 156 1 2 true := ⟨RX2, TX2, 7, "FlockHuts$Field", rfl, in_X2, by decide, ⟨_, q168⟩, Or.inl rfl⟩
theorem fl_X1_168 : FG "FlockHuts" 168 1 1 true := ⟨RX2, TX2, 7, "FlockHuts$Field", rfl, in_X2, by decide, ⟨_, q166⟩, Or.inl rfl⟩
theorem fl_X1_177 : FL "FlockHuts" 177 4 0 .int false true := ⟨RX5, TX5, 2, "FlockHuts$Hut", rfl, in_X5, ⟨tyX5, tyX5_ok⟩, nmX5, by decide, ⟨_, q615⟩, Or.inl rfl, tyX5_ok 0 (by decide), rfl, fun h => nomatch h⟩
theorem fl_X1_178 : FL "FlockHuts" 178 4 1 .int false true := ⟨RX5, TX5, 2, "FlockHuts$Hut", rfl, in_X5, ⟨tyX5, tyX5_ok⟩, nmX5, by decide, ⟨_, q618⟩, Or.inl rfl, tyX5_ok 1 (by decide), rfl, fun h => nomatch h⟩
theorem fl_X1_282 : FG "FlockHuts" 282 6 7 true := ⟨RX7, TX7, 8, "FlockHuts$Refused", rfl, in_X7, by decide, ⟨_, q1193⟩, Or.inl rfl⟩
theorem fl_X1_285 : FG "FlockHuts" 285 6 6 true := ⟨RX7, TX7, 8, "FlockHuts$Refused", rfl, in_X7, by decide, ⟨_, q1191⟩, Or.inl rfl⟩
theorem fl_X1_309 : FL "FlockHuts" 309 1 3 .int false true := ⟨RX2, TX2, 7, "FlockHuts$Field", rfl, in_X2, ⟨tyX2, tyX2_ok⟩, nmX2, by decide, ⟨_, q170⟩, Or.inl rfl, tyX2_ok 3 (by decide), rfl, fun h => nomatch h⟩
theorem fl_X1_312 : FL "FlockHuts" 312 1 4 .int false true := ⟨RX2, TX2, 7, "FlockHuts$Field", rfl, in_X2, ⟨tyX2, tyX2_ok⟩, nmX2, by decide, ⟨_, q172⟩, Or.inl rfl, tyX2_ok 4 (by decide), rfl, fun h => nomatch h⟩
theorem fl_X1_315 : FL "FlockHuts" 315 1 5 .int false true := ⟨RX2, TX2, 7, "FlockHuts$Field", rfl, in_X2, ⟨tyX2, tyX2_ok⟩, nmX2, by decide, ⟨_, q174⟩, Or.inl rfl, tyX2_ok 5 (by decide), rfl, fun h => nomatch h⟩
theorem fl_X1_318 : FL "FlockHuts" 318 1 6 .int false true := ⟨RX2, TX2, 7, "FlockHuts$Field", rfl, in_X2, ⟨tyX2, tyX2_ok⟩, nmX2, by decide, ⟨_, q176⟩, Or.inl rfl, tyX2_ok 6 (by decide), rfl, fun h => nomatch h⟩
theorem fl_X1_347 : FL "FlockHuts" 347 0 5 (.object "FlockHuts$SyntaxException") false false := ⟨RX1, TX1, 8, "FlockHuts", rfl, in_X1, ⟨tyX1, tyX1_ok⟩, nmX1, by decide, q249, Or.inl rfl, tyX1_ok 5 (by decide), rfl, fun h => nomatch h⟩
theorem fl_X1_354 : FG "FlockHuts" 354 11 6 true := ⟨RX13, TX13, 7, "FlockHuts$SyntaxException", rfl, in_X13, by decide, ⟨_, q1891⟩, Or.inl rfl⟩
theorem fl_X1_361 : FL "FlockHuts" 361 0 2 (.object "FlockHuts$Field") false false := ⟨RX1, TX1, 8, "FlockHuts", rfl, in_X1, ⟨tyX1, tyX1_ok⟩, nmX1, by decide, q246, Or.inl rfl, tyX1_ok 2 (by decide), rfl, fun h => nomatch h⟩
theorem fl_X2_12 : FL "FlockHuts$Field" 12 1 0 (.object "java/util/ArrayList") true false := ⟨RX2, TX2, 7, "FlockHuts$Field", rfl, in_X2, ⟨tyX2, tyX2_ok⟩, nmX2, by decide, q161, Or.inl rfl, tyX2_ok 0 (by decide), rfl, fun _ => ⟨rfl, rfl⟩⟩
theorem fl_X2_18 : FL "FlockHuts$Field" 18 1 1 (.object "java/util/ArrayList") true false := ⟨RX2, TX2, 7, "FlockHuts$Field", rfl, in_X2, ⟨tyX2, tyX2_ok⟩, nmX2, by decide, q164, Or.inl rfl, tyX2_ok 1 (by decide), rfl, fun _ => ⟨rfl, rfl⟩⟩
theorem fl_X2_21 : FL "FlockHuts$Field" 21 1 2 (.array .int) true false := ⟨RX2, TX2, 7, "FlockHuts$Field", rfl, in_X2, ⟨tyX2, tyX2_ok⟩, nmX2, by decide, q167, Or.inl rfl, tyX2_ok 2 (by decide), rfl, fun _ => ⟨rfl, rfl⟩⟩
theorem fl_X2_61 : FL "FlockHuts$Field" 61 1 3 .int false false := ⟨RX2, TX2, 7, "FlockHuts$Field", rfl, in_X2, ⟨tyX2, tyX2_ok⟩, nmX2, by decide, q169, Or.inl rfl, tyX2_ok 3 (by decide), rfl, fun h => nomatch h⟩
theorem fl_X2_65 : FL "FlockHuts$Field" 65 1 4 .int false false := ⟨RX2, TX2, 7, "FlockHuts$Field", rfl, in_X2, ⟨tyX2, tyX2_ok⟩, nmX2, by decide, q171, Or.inl rfl, tyX2_ok 4 (by decide), rfl, fun h => nomatch h⟩
theorem fl_X2_68 : FL "FlockHuts$Field" 68 1 5 .int false false := ⟨RX2, TX2, 7, "FlockHuts$Field", rfl, in_X2, ⟨tyX2, tyX2_ok⟩, nmX2, by decide, q173, Or.inl rfl, tyX2_ok 5 (by decide), rfl, fun h => nomatch h⟩
theorem fl_X2_71 : FL "FlockHuts$Field" 71 1 6 .int false false := ⟨RX2, TX2, 7, "FlockHuts$Field", rfl, in_X2, ⟨tyX2, tyX2_ok⟩, nmX2, by decide, q175, Or.inl rfl, tyX2_ok 6 (by decide), rfl, fun h => nomatch h⟩
theorem fl_X2_107 : FL "FlockHuts$Field" 107 3 3 .int false true := ⟨RX4, TX4, 4, "FlockHuts$Sheep", rfl, in_X4, ⟨tyX4, tyX4_ok⟩, nmX4, by decide, ⟨_, q481⟩, Or.inl rfl, tyX4_ok 3 (by decide), rfl, fun h => nomatch h⟩
theorem fl_X2_172 : FL "FlockHuts$Field" 172 3 2 .int false true := ⟨RX4, TX4, 4, "FlockHuts$Sheep", rfl, in_X4, ⟨tyX4, tyX4_ok⟩, nmX4, by decide, ⟨_, q478⟩, Or.inl rfl, tyX4_ok 2 (by decide), rfl, fun h => nomatch h⟩
theorem fl_X2_207 : FG "FlockHuts$Field" 207 3 0 true := ⟨RX4, TX4, 4, "FlockHuts$Sheep", rfl, in_X4, by decide, ⟨_, q470⟩, Or.inl rfl⟩
theorem fl_X2_210 : FG "FlockHuts$Field" 210 3 1 true := ⟨RX4, TX4, 4, "FlockHuts$Sheep", rfl, in_X4, by decide, ⟨_, q474⟩, Or.inl rfl⟩
theorem fl_X2_213 : FL "FlockHuts$Field" 213 4 0 .int false true := ⟨RX5, TX5, 2, "FlockHuts$Hut", rfl, in_X5, ⟨tyX5, tyX5_ok⟩, nmX5, by decide, ⟨_, q616⟩, Or.inl rfl, tyX5_ok 0 (by decide), rfl, fun h => nomatch h⟩
theorem fl_X2_214 : FL "FlockHuts$Field" 214 4 1 .int false true := ⟨RX5, TX5, 2, "FlockHuts$Hut", rfl, in_X5, ⟨tyX5, tyX5_ok⟩, nmX5, by decide, ⟨_, q619⟩, Or.inl rfl, tyX5_ok 1 (by decide), rfl, fun h => nomatch h⟩
theorem fl_X10_1 : FL "FlockHuts$Field$Flock" 1 8 1 (.object "FlockHuts$Field") true false := ⟨RX10, TX10, 2, "FlockHuts$Field$Flock", rfl, in_X10, ⟨tyX10, tyX10_ok⟩, nmX10, by decide, q671, Or.inl rfl, tyX10_ok 1 (by decide), rfl, fun _ => ⟨rfl, rfl⟩⟩
theorem fl_X10_13 : FL "FlockHuts$Field$Flock" 13 8 0 .int true false := ⟨RX10, TX10, 2, "FlockHuts$Field$Flock", rfl, in_X10, ⟨tyX10, tyX10_ok⟩, nmX10, by decide, q669, Or.inl rfl, tyX10_ok 0 (by decide), rfl, fun _ => ⟨rfl, rfl⟩⟩
theorem fl_X10_38 : FL "FlockHuts$Field$Flock" 38 3 2 .int false true := ⟨RX4, TX4, 4, "FlockHuts$Sheep", rfl, in_X4, ⟨tyX4, tyX4_ok⟩, nmX4, by decide, ⟨_, q476⟩, Or.inl rfl, tyX4_ok 2 (by decide), rfl, fun h => nomatch h⟩
theorem fl_X10_41 : FG "FlockHuts$Field$Flock" 41 1 1 true := ⟨RX2, TX2, 7, "FlockHuts$Field", rfl, in_X2, by decide, ⟨_, q165⟩, Or.inl rfl⟩
theorem fl_X10_59 : FG "FlockHuts$Field$Flock" 59 3 0 true := ⟨RX4, TX4, 4, "FlockHuts$Sheep", rfl, in_X4, by decide, ⟨_, q468⟩, Or.inl rfl⟩
theorem fl_X10_62 : FG "FlockHuts$Field$Flock" 62 3 1 true := ⟨RX4, TX4, 4, "FlockHuts$Sheep", rfl, in_X4, by decide, ⟨_, q472⟩, Or.inl rfl⟩
theorem fl_X11_1 : FL "FlockHuts$Field$Flock$1" 1 9 1 (.object "FlockHuts$Field$Flock") true false := ⟨RX11, TX11, 2, "FlockHuts$Field$Flock$1", rfl, in_X11, ⟨tyX11, tyX11_ok⟩, nmX11, by decide, q692, Or.inl rfl, tyX11_ok 1 (by decide), rfl, fun _ => ⟨rfl, rfl⟩⟩
theorem fl_X11_17 : FL "FlockHuts$Field$Flock$1" 17 9 0 .int false false := ⟨RX11, TX11, 2, "FlockHuts$Field$Flock$1", rfl, in_X11, ⟨tyX11, tyX11_ok⟩, nmX11, by decide, q691, Or.inl rfl, tyX11_ok 0 (by decide), rfl, fun h => nomatch h⟩
theorem fl_X11_21 : FG "FlockHuts$Field$Flock$1" 21 8 1 false := ⟨RX10, TX10, 2, "FlockHuts$Field$Flock", rfl, in_X10, by decide, q672, Or.inl rfl⟩
theorem fl_X11_27 : FG "FlockHuts$Field$Flock$1" 27 1 0 true := ⟨RX2, TX2, 7, "FlockHuts$Field", rfl, in_X2, by decide, ⟨_, q162⟩, Or.inl rfl⟩
theorem fl_X11_45 : FL "FlockHuts$Field$Flock$1" 45 3 3 .int false true := ⟨RX4, TX4, 4, "FlockHuts$Sheep", rfl, in_X4, ⟨tyX4, tyX4_ok⟩, nmX4, by decide, ⟨_, q480⟩, Or.inl rfl, tyX4_ok 3 (by decide), rfl, fun h => nomatch h⟩
theorem fl_X11_48 : FG "FlockHuts$Field$Flock$1" 48 8 0 true := ⟨RX10, TX10, 2, "FlockHuts$Field$Flock", rfl, in_X10, by decide, ⟨_, q670⟩, Or.inl rfl⟩
theorem fl_X5_19 : FL "FlockHuts$Hut" 19 4 0 .int false false := ⟨RX5, TX5, 2, "FlockHuts$Hut", rfl, in_X5, ⟨tyX5, tyX5_ok⟩, nmX5, by decide, q614, Or.inl rfl, tyX5_ok 0 (by decide), rfl, fun h => nomatch h⟩
theorem fl_X5_25 : FL "FlockHuts$Hut" 25 4 1 .int false false := ⟨RX5, TX5, 2, "FlockHuts$Hut", rfl, in_X5, ⟨tyX5, tyX5_ok⟩, nmX5, by decide, q617, Or.inl rfl, tyX5_ok 1 (by decide), rfl, fun h => nomatch h⟩
theorem fl_X6_9 : FL "FlockHuts$Order" 9 5 0 (.object "java/lang/String") true false := ⟨RX6, TX6, 2, "FlockHuts$Order", rfl, in_X6, ⟨tyX6, tyX6_ok⟩, nmX6, by decide, q1061, Or.inl rfl, tyX6_ok 0 (by decide), rfl, fun _ => ⟨rfl, rfl⟩⟩
theorem fl_X6_15 : FL "FlockHuts$Order" 15 5 1 (.array .int) true false := ⟨RX6, TX6, 2, "FlockHuts$Order", rfl, in_X6, ⟨tyX6, tyX6_ok⟩, nmX6, by decide, q1062, Or.inl rfl, tyX6_ok 1 (by decide), rfl, fun _ => ⟨rfl, rfl⟩⟩
theorem fl_X12_9 : FL "FlockHuts$Parser" 9 10 0 (.object "java/lang/CharSequence") true false := ⟨RX12, TX12, 2, "FlockHuts$Parser", rfl, in_X12, ⟨tyX12, tyX12_ok⟩, nmX12, by decide, q1768, Or.inl rfl, tyX12_ok 0 (by decide), rfl, fun _ => ⟨rfl, rfl⟩⟩
theorem fl_X12_15 : FL "FlockHuts$Parser" 15 10 1 .int false false := ⟨RX12, TX12, 2, "FlockHuts$Parser", rfl, in_X12, ⟨tyX12, tyX12_ok⟩, nmX12, by decide, q1769, Or.inl rfl, tyX12_ok 1 (by decide), rfl, fun h => nomatch h⟩
theorem fl_X9_1 : FL "FlockHuts$Placed$1" 1 7 0 .int true false := ⟨RX9, TX9, 2, "FlockHuts$Placed$1", rfl, in_X9, ⟨tyX9, tyX9_ok⟩, nmX9, by decide, q720, Or.inl rfl, tyX9_ok 0 (by decide), rfl, fun _ => ⟨rfl, rfl⟩⟩
theorem fl_X9_7 : FL "FlockHuts$Placed$1" 7 7 1 .int true false := ⟨RX9, TX9, 2, "FlockHuts$Placed$1", rfl, in_X9, ⟨tyX9, tyX9_ok⟩, nmX9, by decide, q721, Or.inl rfl, tyX9_ok 1 (by decide), rfl, fun _ => ⟨rfl, rfl⟩⟩
theorem fl_X7_7 : FL "FlockHuts$Refused" 7 6 6 .int true false := ⟨RX7, TX7, 8, "FlockHuts$Refused", rfl, in_X7, ⟨tyX7, tyX7_ok⟩, nmX7, by decide, q1190, Or.inl rfl, tyX7_ok 6 (by decide), rfl, fun _ => ⟨rfl, rfl⟩⟩
theorem fl_X7_13 : FL "FlockHuts$Refused" 13 6 7 .int true false := ⟨RX7, TX7, 8, "FlockHuts$Refused", rfl, in_X7, ⟨tyX7, tyX7_ok⟩, nmX7, by decide, q1192, Or.inl rfl, tyX7_ok 7 (by decide), rfl, fun _ => ⟨rfl, rfl⟩⟩
theorem fl_X4_9 : FL "FlockHuts$Sheep" 9 3 3 .int false false := ⟨RX4, TX4, 4, "FlockHuts$Sheep", rfl, in_X4, ⟨tyX4, tyX4_ok⟩, nmX4, by decide, q479, Or.inl rfl, tyX4_ok 3 (by decide), rfl, fun h => nomatch h⟩
theorem fl_X4_15 : FL "FlockHuts$Sheep" 15 3 0 .int true false := ⟨RX4, TX4, 4, "FlockHuts$Sheep", rfl, in_X4, ⟨tyX4, tyX4_ok⟩, nmX4, by decide, q467, Or.inl rfl, tyX4_ok 0 (by decide), rfl, fun _ => ⟨rfl, rfl⟩⟩
theorem fl_X4_18 : FL "FlockHuts$Sheep" 18 3 1 .int true false := ⟨RX4, TX4, 4, "FlockHuts$Sheep", rfl, in_X4, ⟨tyX4, tyX4_ok⟩, nmX4, by decide, q471, Or.inl rfl, tyX4_ok 1 (by decide), rfl, fun _ => ⟨rfl, rfl⟩⟩
theorem fl_X4_21 : FL "FlockHuts$Sheep" 21 3 2 .int false false := ⟨RX4, TX4, 4, "FlockHuts$Sheep", rfl, in_X4, ⟨tyX4, tyX4_ok⟩, nmX4, by decide, q475, Or.inl rfl, tyX4_ok 2 (by decide), rfl, fun h => nomatch h⟩
theorem fl_X13_7 : FL "FlockHuts$SyntaxException" 7 11 6 .int true false := ⟨RX13, TX13, 7, "FlockHuts$SyntaxException", rfl, in_X13, ⟨tyX13, tyX13_ok⟩, nmX13, by decide, q1890, Or.inl rfl, tyX13_ok 6 (by decide), rfl, fun _ => ⟨rfl, rfl⟩⟩
theorem fl_X3_7 : FL "FlockHutsModel" 7 2 1 (.array .int) true false := ⟨RX3, TX3, 26, "FlockHutsModel", rfl, in_X3, ⟨tyX3, tyX3_ok⟩, nmX3, by decide, q1966, Or.inl rfl, tyX3_ok 1 (by decide), rfl, fun _ => ⟨rfl, rfl⟩⟩
theorem fl_X3_13 : FL "FlockHutsModel" 13 2 2 (.array .int) true false := ⟨RX3, TX3, 26, "FlockHutsModel", rfl, in_X3, ⟨tyX3, tyX3_ok⟩, nmX3, by decide, q1967, Or.inl rfl, tyX3_ok 2 (by decide), rfl, fun _ => ⟨rfl, rfl⟩⟩
theorem fl_X3_16 : FL "FlockHutsModel" 16 2 3 (.array .int) true false := ⟨RX3, TX3, 26, "FlockHutsModel", rfl, in_X3, ⟨tyX3, tyX3_ok⟩, nmX3, by decide, q1968, Or.inl rfl, tyX3_ok 3 (by decide), rfl, fun _ => ⟨rfl, rfl⟩⟩
theorem fl_X3_19 : FL "FlockHutsModel" 19 2 4 (.array .int) true false := ⟨RX3, TX3, 26, "FlockHutsModel", rfl, in_X3, ⟨tyX3, tyX3_ok⟩, nmX3, by decide, q1969, Or.inl rfl, tyX3_ok 4 (by decide), rfl, fun _ => ⟨rfl, rfl⟩⟩
theorem fl_X3_22 : FL "FlockHutsModel" 22 2 5 (.array .int) true false := ⟨RX3, TX3, 26, "FlockHutsModel", rfl, in_X3, ⟨tyX3, tyX3_ok⟩, nmX3, by decide, q1970, Or.inl rfl, tyX3_ok 5 (by decide), rfl, fun _ => ⟨rfl, rfl⟩⟩
theorem fl_X3_25 : FL "FlockHutsModel" 25 2 6 (.array .int) true false := ⟨RX3, TX3, 26, "FlockHutsModel", rfl, in_X3, ⟨tyX3, tyX3_ok⟩, nmX3, by decide, q1971, Or.inl rfl, tyX3_ok 6 (by decide), rfl, fun _ => ⟨rfl, rfl⟩⟩
theorem fl_X3_28 : FL "FlockHutsModel" 28 2 9 (.array .int) true false := ⟨RX3, TX3, 26, "FlockHutsModel", rfl, in_X3, ⟨tyX3, tyX3_ok⟩, nmX3, by decide, q1974, Or.inl rfl, tyX3_ok 9 (by decide), rfl, fun _ => ⟨rfl, rfl⟩⟩
theorem fl_X3_31 : FL "FlockHutsModel" 31 2 10 (.array .int) true false := ⟨RX3, TX3, 26, "FlockHutsModel", rfl, in_X3, ⟨tyX3, tyX3_ok⟩, nmX3, by decide, q1975, Or.inl rfl, tyX3_ok 10 (by decide), rfl, fun _ => ⟨rfl, rfl⟩⟩
theorem fl_X3_34 : FL "FlockHutsModel" 34 2 11 (.array .int) true false := ⟨RX3, TX3, 26, "FlockHutsModel", rfl, in_X3, ⟨tyX3, tyX3_ok⟩, nmX3, by decide, q1976, Or.inl rfl, tyX3_ok 11 (by decide), rfl, fun _ => ⟨rfl, rfl⟩⟩
theorem fl_X3_37 : FL "FlockHutsModel" 37 2 12 (.array .int) true false := ⟨RX3, TX3, 26, "FlockHutsModel", rfl, in_X3, ⟨tyX3, tyX3_ok⟩, nmX3, by decide, q1977, Or.inl rfl, tyX3_ok 12 (by decide), rfl, fun _ => ⟨rfl, rfl⟩⟩
theorem fl_X3_40 : FL "FlockHutsModel" 40 2 13 (.array .int) true false := ⟨RX3, TX3, 26, "FlockHutsModel", rfl, in_X3, ⟨tyX3, tyX3_ok⟩, nmX3, by decide, q1978, Or.inl rfl, tyX3_ok 13 (by decide), rfl, fun _ => ⟨rfl, rfl⟩⟩
theorem fl_X3_43 : FL "FlockHutsModel" 43 2 16 .int false false := ⟨RX3, TX3, 26, "FlockHutsModel", rfl, in_X3, ⟨tyX3, tyX3_ok⟩, nmX3, by decide, q1981, Or.inl rfl, tyX3_ok 16 (by decide), rfl, fun h => nomatch h⟩
theorem fl_X3_47 : FL "FlockHutsModel" 47 2 17 .int false false := ⟨RX3, TX3, 26, "FlockHutsModel", rfl, in_X3, ⟨tyX3, tyX3_ok⟩, nmX3, by decide, q1982, Or.inl rfl, tyX3_ok 17 (by decide), rfl, fun h => nomatch h⟩
theorem fl_X3_53 : FL "FlockHutsModel" 53 2 0 .int false false := ⟨RX3, TX3, 26, "FlockHutsModel", rfl, in_X3, ⟨tyX3, tyX3_ok⟩, nmX3, by decide, q1965, Or.inl rfl, tyX3_ok 0 (by decide), rfl, fun h => nomatch h⟩
theorem fl_X3_56 : FL "FlockHutsModel" 56 2 7 .int false false := ⟨RX3, TX3, 26, "FlockHutsModel", rfl, in_X3, ⟨tyX3, tyX3_ok⟩, nmX3, by decide, q1972, Or.inl rfl, tyX3_ok 7 (by decide), rfl, fun h => nomatch h⟩
theorem fl_X3_59 : FL "FlockHutsModel" 59 2 20 .int false false := ⟨RX3, TX3, 26, "FlockHutsModel", rfl, in_X3, ⟨tyX3, tyX3_ok⟩, nmX3, by decide, q1985, Or.inl rfl, tyX3_ok 20 (by decide), rfl, fun h => nomatch h⟩
theorem fl_X3_62 : FL "FlockHutsModel" 62 2 21 .int false false := ⟨RX3, TX3, 26, "FlockHutsModel", rfl, in_X3, ⟨tyX3, tyX3_ok⟩, nmX3, by decide, q1986, Or.inl rfl, tyX3_ok 21 (by decide), rfl, fun h => nomatch h⟩
theorem fl_X3_72 : FL "FlockHutsModel" 72 2 18 .int false false := ⟨RX3, TX3, 26, "FlockHutsModel", rfl, in_X3, ⟨tyX3, tyX3_ok⟩, nmX3, by decide, q1983, Or.inl rfl, tyX3_ok 18 (by decide), rfl, fun h => nomatch h⟩
theorem fl_X3_75 : FL "FlockHutsModel" 75 2 19 .int false false := ⟨RX3, TX3, 26, "FlockHutsModel", rfl, in_X3, ⟨tyX3, tyX3_ok⟩, nmX3, by decide, q1984, Or.inl rfl, tyX3_ok 19 (by decide), rfl, fun h => nomatch h⟩
theorem fl_X3_206 : FL "FlockHutsModel" 206 2 15 .int false false := ⟨RX3, TX3, 26, "FlockHutsModel", rfl, in_X3, ⟨tyX3, tyX3_ok⟩, nmX3, by decide, q1980, Or.inl rfl, tyX3_ok 15 (by decide), rfl, fun h => nomatch h⟩
theorem fl_X3_222 : FL "FlockHutsModel" 222 2 14 .int false false := ⟨RX3, TX3, 26, "FlockHutsModel", rfl, in_X3, ⟨tyX3, tyX3_ok⟩, nmX3, by decide, q1979, Or.inl rfl, tyX3_ok 14 (by decide), rfl, fun h => nomatch h⟩
theorem fl_X3_225 : FL "FlockHutsModel" 225 2 22 .int false false := ⟨RX3, TX3, 26, "FlockHutsModel", rfl, in_X3, ⟨tyX3, tyX3_ok⟩, nmX3, by decide, q1987, Or.inl rfl, tyX3_ok 22 (by decide), rfl, fun h => nomatch h⟩
theorem fl_X3_228 : FL "FlockHutsModel" 228 2 23 .int false false := ⟨RX3, TX3, 26, "FlockHutsModel", rfl, in_X3, ⟨tyX3, tyX3_ok⟩, nmX3, by decide, q1988, Or.inl rfl, tyX3_ok 23 (by decide), rfl, fun h => nomatch h⟩
theorem fl_X3_235 : FL "FlockHutsModel" 235 2 25 .boolean false false := ⟨RX3, TX3, 26, "FlockHutsModel", rfl, in_X3, ⟨tyX3, tyX3_ok⟩, nmX3, by decide, q1990, Or.inl rfl, tyX3_ok 25 (by decide), rfl, fun h => nomatch h⟩
theorem fl_X3_249 : FL "FlockHutsModel" 249 2 24 .int false false := ⟨RX3, TX3, 26, "FlockHutsModel", rfl, in_X3, ⟨tyX3, tyX3_ok⟩, nmX3, by decide, q1989, Or.inl rfl, tyX3_ok 24 (by decide), rfl, fun h => nomatch h⟩
theorem fl_X3_283 : FL "FlockHutsModel" 283 2 8 .boolean false false := ⟨RX3, TX3, 26, "FlockHutsModel", rfl, in_X3, ⟨tyX3, tyX3_ok⟩, nmX3, by decide, q1973, Or.inl rfl, tyX3_ok 8 (by decide), rfl, fun h => nomatch h⟩
theorem fl_J4_15 : FL "java/lang/AbstractStringBuilder" 15 14 0 (.array .byte) false false := ⟨RJ5, TJ5, 4, "java/lang/AbstractStringBuilder", rfl, in_J5, ⟨tyJ5, tyJ5_ok⟩, nmJ5, by decide, q229, Or.inl rfl, tyJ5_ok 0 (by decide), rfl, fun h => nomatch h⟩
theorem fl_J4_22 : FL "java/lang/AbstractStringBuilder" 22 14 1 .byte false false := ⟨RJ5, TJ5, 4, "java/lang/AbstractStringBuilder", rfl, in_J5, ⟨tyJ5, tyJ5_ok⟩, nmJ5, by decide, q230, Or.inl rfl, tyJ5_ok 1 (by decide), rfl, fun h => nomatch h⟩
theorem fl_J4_79 : FL "java/lang/AbstractStringBuilder" 79 14 3 .int false false := ⟨RJ5, TJ5, 4, "java/lang/AbstractStringBuilder", rfl, in_J5, ⟨tyJ5, tyJ5_ok⟩, nmJ5, by decide, q232, Or.inl rfl, tyJ5_ok 3 (by decide), rfl, fun h => nomatch h⟩
theorem fl_J6_9 : FL "java/lang/String" 9 15 0 (.array .byte) true false := ⟨RJ6, TJ6, 4, "java/lang/String", rfl, in_J6, ⟨tyJ6, tyJ6_ok⟩, nmJ6, by decide, q1021, Or.inl rfl, tyJ6_ok 0 (by decide), rfl, fun _ => ⟨rfl, rfl⟩⟩
theorem fl_J6_15 : FL "java/lang/String" 15 15 1 .byte true false := ⟨RJ6, TJ6, 4, "java/lang/String", rfl, in_J6, ⟨tyJ6, tyJ6_ok⟩, nmJ6, by decide, q1022, Or.inl rfl, tyJ6_ok 1 (by decide), rfl, fun _ => ⟨rfl, rfl⟩⟩
theorem fl_J6_19 : FL "java/lang/String" 19 15 2 .int false false := ⟨RJ6, TJ6, 4, "java/lang/String", rfl, in_J6, ⟨tyJ6, tyJ6_ok⟩, nmJ6, by decide, q1023, Or.inl rfl, tyJ6_ok 2 (by decide), rfl, fun h => nomatch h⟩
theorem fl_J6_23 : FL "java/lang/String" 23 15 3 .boolean false false := ⟨RJ6, TJ6, 4, "java/lang/String", rfl, in_J6, ⟨tyJ6, tyJ6_ok⟩, nmJ6, by decide, q1024, Or.inl rfl, tyJ6_ok 3 (by decide), rfl, fun h => nomatch h⟩
theorem fl_J6_1048 : FL "java/lang/String" 1048 14 2 .boolean false false := ⟨RJ5, TJ5, 4, "java/lang/AbstractStringBuilder", rfl, in_J5, ⟨tyJ5, tyJ5_ok⟩, nmJ5, by decide, q231, Or.inl rfl, tyJ5_ok 2 (by decide), rfl, fun h => nomatch h⟩
theorem fl_J9_7_X7 : FL "java/lang/Throwable" 7 6 0 (.object "java/lang/Throwable") false false := ⟨RX7, TX7, 8, "java/lang/Throwable", rfl, in_X7, ⟨tyX7, tyX7_ok⟩, nmX7, by decide, q414, Or.inl rfl, tyX7_ok 0 (by decide), rfl, fun h => nomatch h⟩
theorem fl_J9_7_X13 : FL "java/lang/Throwable" 7 11 0 (.object "java/lang/Throwable") false false := ⟨RX13, TX13, 7, "java/lang/Throwable", rfl, in_X13, ⟨tyX13, tyX13_ok⟩, nmX13, by decide, q414, Or.inl rfl, tyX13_ok 0 (by decide), rfl, fun h => nomatch h⟩
theorem fl_J9_17_X7 : FL "java/lang/Throwable" 17 6 1 (.array (.object "java/lang/StackTraceElement")) false false := ⟨RX7, TX7, 8, "java/lang/Throwable", rfl, in_X7, ⟨tyX7, tyX7_ok⟩, nmX7, by decide, q415, Or.inl rfl, tyX7_ok 1 (by decide), rfl, fun h => nomatch h⟩
theorem fl_J9_17_X13 : FL "java/lang/Throwable" 17 11 1 (.array (.object "java/lang/StackTraceElement")) false false := ⟨RX13, TX13, 7, "java/lang/Throwable", rfl, in_X13, ⟨tyX13, tyX13_ok⟩, nmX13, by decide, q415, Or.inl rfl, tyX13_ok 1 (by decide), rfl, fun h => nomatch h⟩
theorem fl_J9_24_X7 : FL "java/lang/Throwable" 24 6 2 (.object "java/util/List") false false := ⟨RX7, TX7, 8, "java/lang/Throwable", rfl, in_X7, ⟨tyX7, tyX7_ok⟩, nmX7, by decide, q416, Or.inl rfl, tyX7_ok 2 (by decide), rfl, fun h => nomatch h⟩
theorem fl_J9_24_X13 : FL "java/lang/Throwable" 24 11 2 (.object "java/util/List") false false := ⟨RX13, TX13, 7, "java/lang/Throwable", rfl, in_X13, ⟨tyX13, tyX13_ok⟩, nmX13, by decide, q416, Or.inl rfl, tyX13_ok 2 (by decide), rfl, fun h => nomatch h⟩
theorem fl_J9_31_X7 : FL "java/lang/Throwable" 31 6 3 (.object "java/lang/String") false false := ⟨RX7, TX7, 8, "java/lang/Throwable", rfl, in_X7, ⟨tyX7, tyX7_ok⟩, nmX7, by decide, q413, Or.inl rfl, tyX7_ok 3 (by decide), rfl, fun h => nomatch h⟩
theorem fl_J9_31_X13 : FL "java/lang/Throwable" 31 11 3 (.object "java/lang/String") false false := ⟨RX13, TX13, 7, "java/lang/Throwable", rfl, in_X13, ⟨tyX13, tyX13_ok⟩, nmX13, by decide, q413, Or.inl rfl, tyX13_ok 3 (by decide), rfl, fun h => nomatch h⟩
theorem fl_J9_198_X7 : FL "java/lang/Throwable" 198 6 4 (.object "java/lang/Object") false false := ⟨RX7, TX7, 8, "java/lang/Throwable", rfl, in_X7, ⟨tyX7, tyX7_ok⟩, nmX7, by decide, q412, Or.inl rfl, tyX7_ok 4 (by decide), rfl, fun h => nomatch h⟩
theorem fl_J9_198_X13 : FL "java/lang/Throwable" 198 11 4 (.object "java/lang/Object") false false := ⟨RX13, TX13, 7, "java/lang/Throwable", rfl, in_X13, ⟨tyX13, tyX13_ok⟩, nmX13, by decide, q412, Or.inl rfl, tyX13_ok 4 (by decide), rfl, fun h => nomatch h⟩
theorem fl_J1_7 : FL "java/util/AbstractList" 7 12 0 .int false false := ⟨RJ2, TJ2, 3, "java/util/AbstractList", rfl, in_J2, ⟨tyJ2, tyJ2_ok⟩, nmJ2, by decide, q150, Or.inl rfl, tyJ2_ok 0 (by decide), rfl, fun h => nomatch h⟩
theorem fl_J3_3 : FL "java/util/ArrayDeque" 3 13 0 (.array (.object "java/lang/Object")) false false := ⟨RJ3, TJ3, 3, "java/util/ArrayDeque", rfl, in_J3, ⟨tyJ3, tyJ3_ok⟩, nmJ3, by decide, q201, Or.inl rfl, tyJ3_ok 0 (by decide), rfl, fun h => nomatch h⟩
theorem fl_J3_20 : FL "java/util/ArrayDeque" 20 13 2 .int false false := ⟨RJ3, TJ3, 3, "java/util/ArrayDeque", rfl, in_J3, ⟨tyJ3, tyJ3_ok⟩, nmJ3, by decide, q203, Or.inl rfl, tyJ3_ok 2 (by decide), rfl, fun h => nomatch h⟩
theorem fl_J3_24 : FL "java/util/ArrayDeque" 24 13 1 .int false false := ⟨RJ3, TJ3, 3, "java/util/ArrayDeque", rfl, in_J3, ⟨tyJ3, tyJ3_ok⟩, nmJ3, by decide, q202, Or.inl rfl, tyJ3_ok 1 (by decide), rfl, fun h => nomatch h⟩
theorem fl_J2_9 : FL "java/util/ArrayList" 9 12 1 (.array (.object "java/lang/Object")) false false := ⟨RJ2, TJ2, 3, "java/util/ArrayList", rfl, in_J2, ⟨tyJ2, tyJ2_ok⟩, nmJ2, by decide, q146, Or.inl rfl, tyJ2_ok 1 (by decide), rfl, fun h => nomatch h⟩
theorem fl_J2_48 : FL "java/util/ArrayList" 48 12 2 .int false false := ⟨RJ2, TJ2, 3, "java/util/ArrayList", rfl, in_J2, ⟨tyJ2, tyJ2_ok⟩, nmJ2, by decide, q149, Or.inl rfl, tyJ2_ok 2 (by decide), rfl, fun h => nomatch h⟩
theorem fl_J2_63 : FL "java/util/ArrayList" 63 12 0 .int false false := ⟨RJ2, TJ2, 3, "java/util/ArrayList", rfl, in_J2, ⟨tyJ2, tyJ2_ok⟩, nmJ2, by decide, q153, Or.inr q152, tyJ2_ok 0 (by decide), rfl, fun h => nomatch h⟩
theorem fl_J8_1 : FL "java/util/ArrayList$Itr" 1 16 3 (.object "java/util/ArrayList") true false := ⟨RJ8, TJ8, 4, "java/util/ArrayList$Itr", rfl, in_J8, ⟨tyJ8, tyJ8_ok⟩, nmJ8, by decide, q311, Or.inl rfl, tyJ8_ok 3 (by decide), rfl, fun _ => ⟨rfl, rfl⟩⟩
theorem fl_J8_13 : FL "java/util/ArrayList$Itr" 13 16 1 .int false false := ⟨RJ8, TJ8, 4, "java/util/ArrayList$Itr", rfl, in_J8, ⟨tyJ8, tyJ8_ok⟩, nmJ8, by decide, q309, Or.inl rfl, tyJ8_ok 1 (by decide), rfl, fun h => nomatch h⟩
theorem fl_J8_17 : FL "java/util/ArrayList$Itr" 17 12 0 .int false false := ⟨RJ2, TJ2, 3, "java/util/ArrayList", rfl, in_J2, ⟨tyJ2, tyJ2_ok⟩, nmJ2, by decide, q151, Or.inr q152, tyJ2_ok 0 (by decide), rfl, fun h => nomatch h⟩
theorem fl_J8_22 : FL "java/util/ArrayList$Itr" 22 16 2 .int false false := ⟨RJ8, TJ8, 4, "java/util/ArrayList$Itr", rfl, in_J8, ⟨tyJ8, tyJ8_ok⟩, nmJ8, by decide, q310, Or.inl rfl, tyJ8_ok 2 (by decide), rfl, fun h => nomatch h⟩
theorem fl_J8_25 : FL "java/util/ArrayList$Itr" 25 16 0 .int false false := ⟨RJ8, TJ8, 4, "java/util/ArrayList$Itr", rfl, in_J8, ⟨tyJ8, tyJ8_ok⟩, nmJ8, by decide, q308, Or.inl rfl, tyJ8_ok 0 (by decide), rfl, fun h => nomatch h⟩
theorem fl_J8_28 : FL "java/util/ArrayList$Itr" 28 12 2 .int false true := ⟨RJ2, TJ2, 3, "java/util/ArrayList", rfl, in_J2, ⟨tyJ2, tyJ2_ok⟩, nmJ2, by decide, ⟨_, q148⟩, Or.inl rfl, tyJ2_ok 2 (by decide), rfl, fun h => nomatch h⟩
theorem fl_J8_37 : FL "java/util/ArrayList$Itr" 37 12 1 (.array (.object "java/lang/Object")) false false := ⟨RJ2, TJ2, 3, "java/util/ArrayList", rfl, in_J2, ⟨tyJ2, tyJ2_ok⟩, nmJ2, by decide, q147, Or.inl rfl, tyJ2_ok 1 (by decide), rfl, fun h => nomatch h⟩
theorem nl_X1_34 : NL "FlockHuts" 34 1 7 [.null, .null, .null, .int 0, .int 0, .int 0, .int 0] := ⟨RX2, TX2, tyX2, rfl, in_X2, tyX2_ok, q126, q127, q78, fun j hj => by
  rcases (show j = 0 ∨ j = 1 ∨ j = 2 ∨ j = 3 ∨ j = 4 ∨ j = 5 ∨ j = 6 by omega) with rfl | rfl | rfl | rfl | rfl | rfl | rfl <;> rfl⟩
theorem nl_X1_41 : NL "FlockHuts" 41 13 3 [.null, .int 0, .int 0] := ⟨RJ3, TJ3, tyJ3, rfl, in_J3, tyJ3_ok, q193, q194, q82, fun j hj => by
  rcases (show j = 0 ∨ j = 1 ∨ j = 2 by omega) with rfl | rfl | rfl <;> rfl⟩
theorem nl_X1_48 : NL "FlockHuts" 48 14 4 [.null, .int 0, .int 0, .int 0] := ⟨RJ5, TJ5, tyJ5, rfl, in_J5, tyJ5_ok, q211, q212, q84, fun j hj => by
  rcases (show j = 0 ∨ j = 1 ∨ j = 2 ∨ j = 3 by omega) with rfl | rfl | rfl | rfl <;> rfl⟩
theorem nl_X1_81 : NL "FlockHuts" 81 5 2 [.null, .null] := ⟨RX6, TX6, tyX6, rfl, in_X6, tyX6_ok, q1055, q1056, q101, fun j hj => by
  rcases (show j = 0 ∨ j = 1 by omega) with rfl | rfl <;> rfl⟩
theorem nl_X1_90 : NL "FlockHuts" 90 6 8 [.null, .null, .null, .null, .null, .int 0, .int 0, .int 0] := ⟨RX7, TX7, tyX7, rfl, in_X7, tyX7_ok, q1053, q1173, q106, fun j hj => by
  rcases (show j = 0 ∨ j = 1 ∨ j = 2 ∨ j = 3 ∨ j = 4 ∨ j = 5 ∨ j = 6 ∨ j = 7 by omega) with rfl | rfl | rfl | rfl | rfl | rfl | rfl | rfl <;> rfl⟩
theorem nl_X1_132 : NL "FlockHuts" 132 3 4 [.int 0, .int 0, .int 0, .int 0] := ⟨RX4, TX4, tyX4, rfl, in_X4, tyX4_ok, q1692, q462, q95, fun j hj => by
  rcases (show j = 0 ∨ j = 1 ∨ j = 2 ∨ j = 3 by omega) with rfl | rfl | rfl | rfl <;> rfl⟩
theorem nl_X1_175 : NL "FlockHuts" 175 4 2 [.int 0, .int 0] := ⟨RX5, TX5, tyX5, rfl, in_X5, tyX5_ok, q1486, q564, q100, fun j hj => by
  rcases (show j = 0 ∨ j = 1 by omega) with rfl | rfl <;> rfl⟩
theorem nl_X1_337 : NL "FlockHuts" 337 10 2 [.null, .int 0] := ⟨RX12, TX12, tyX12, rfl, in_X12, tyX12_ok, q1762, q1763, q116, fun j hj => by
  rcases (show j = 0 ∨ j = 1 by omega) with rfl | rfl <;> rfl⟩
theorem nl_X1_345 : NL "FlockHuts" 345 11 7 [.null, .null, .null, .null, .null, .int 0, .int 0] := ⟨RX13, TX13, tyX13, rfl, in_X13, tyX13_ok, q1761, q1878, q117, fun j hj => by
  rcases (show j = 0 ∨ j = 1 ∨ j = 2 ∨ j = 3 ∨ j = 4 ∨ j = 5 ∨ j = 6 by omega) with rfl | rfl | rfl | rfl | rfl | rfl | rfl <;> rfl⟩
theorem nl_X2_9 : NL "FlockHuts$Field" 9 12 3 [.int 0, .null, .int 0] := ⟨RJ2, TJ2, tyJ2, rfl, in_J2, tyJ2_ok, q132, q133, q81, fun j hj => by
  rcases (show j = 0 ∨ j = 1 ∨ j = 2 by omega) with rfl | rfl | rfl <;> rfl⟩
theorem nl_X2_13 : NL "FlockHuts$Field" 13 1 7 [.null, .null, .null, .int 0, .int 0, .int 0, .int 0] := ⟨RX2, TX2, tyX2, rfl, in_X2, tyX2_ok, q296, q127, q78, fun j hj => by
  rcases (show j = 0 ∨ j = 1 ∨ j = 2 ∨ j = 3 ∨ j = 4 ∨ j = 5 ∨ j = 6 by omega) with rfl | rfl | rfl | rfl | rfl | rfl | rfl <;> rfl⟩
theorem nl_X2_40 : NL "FlockHuts$Field" 40 3 4 [.int 0, .int 0, .int 0, .int 0] := ⟨RX4, TX4, tyX4, rfl, in_X4, tyX4_ok, q456, q462, q95, fun j hj => by
  rcases (show j = 0 ∨ j = 1 ∨ j = 2 ∨ j = 3 by omega) with rfl | rfl | rfl | rfl <;> rfl⟩
theorem nl_X2_50 : NL "FlockHuts$Field" 50 4 2 [.int 0, .int 0] := ⟨RX5, TX5, tyX5, rfl, in_X5, tyX5_ok, q563, q564, q100, fun j hj => by
  rcases (show j = 0 ∨ j = 1 by omega) with rfl | rfl <;> rfl⟩
theorem nl_X2_74 : NL "FlockHuts$Field" 74 8 2 [.int 0, .null] := ⟨RX10, TX10, tyX10, rfl, in_X10, tyX10_ok, q663, q664, q110, fun j hj => by
  rcases (show j = 0 ∨ j = 1 by omega) with rfl | rfl <;> rfl⟩
theorem nl_X2_245 : NL "FlockHuts$Field" 245 14 4 [.null, .int 0, .int 0, .int 0] := ⟨RJ5, TJ5, tyJ5, rfl, in_J5, tyJ5_ok, q809, q212, q84, fun j hj => by
  rcases (show j = 0 ∨ j = 1 ∨ j = 2 ∨ j = 3 by omega) with rfl | rfl | rfl | rfl <;> rfl⟩
theorem nl_X10_17 : NL "FlockHuts$Field$Flock" 17 9 2 [.int 0, .null] := ⟨RX11, TX11, tyX11, rfl, in_X11, tyX11_ok, q686, q443, q111, fun j hj => by
  rcases (show j = 0 ∨ j = 1 by omega) with rfl | rfl <;> rfl⟩
theorem nl_X10_36 : NL "FlockHuts$Field$Flock" 36 3 4 [.int 0, .int 0, .int 0, .int 0] := ⟨RX4, TX4, tyX4, rfl, in_X4, tyX4_ok, q706, q462, q95, fun j hj => by
  rcases (show j = 0 ∨ j = 1 ∨ j = 2 ∨ j = 3 by omega) with rfl | rfl | rfl | rfl <;> rfl⟩
theorem nl_X11_43 : NL "FlockHuts$Field$Flock$1" 43 3 4 [.int 0, .int 0, .int 0, .int 0] := ⟨RX4, TX4, tyX4, rfl, in_X4, tyX4_ok, q439, q462, q95, fun j hj => by
  rcases (show j = 0 ∨ j = 1 ∨ j = 2 ∨ j = 3 by omega) with rfl | rfl | rfl | rfl <;> rfl⟩
theorem nl_X6_78 : NL "FlockHuts$Order" 78 14 4 [.null, .int 0, .int 0, .int 0] := ⟨RJ5, TJ5, tyJ5, rfl, in_J5, tyJ5_ok, q1834, q212, q84, fun j hj => by
  rcases (show j = 0 ∨ j = 1 ∨ j = 2 ∨ j = 3 by omega) with rfl | rfl | rfl | rfl <;> rfl⟩
theorem nl_X12_37 : NL "FlockHuts$Parser" 37 11 7 [.null, .null, .null, .null, .null, .int 0, .int 0] := ⟨RX13, TX13, tyX13, rfl, in_X13, tyX13_ok, q1877, q1878, q117, fun j hj => by
  rcases (show j = 0 ∨ j = 1 ∨ j = 2 ∨ j = 3 ∨ j = 4 ∨ j = 5 ∨ j = 6 by omega) with rfl | rfl | rfl | rfl | rfl | rfl | rfl <;> rfl⟩
theorem nl_X12_49 : NL "FlockHuts$Parser" 49 5 2 [.null, .null] := ⟨RX6, TX6, tyX6, rfl, in_X6, tyX6_ok, q1909, q1056, q101, fun j hj => by
  rcases (show j = 0 ∨ j = 1 by omega) with rfl | rfl <;> rfl⟩
theorem nl_X12_54 : NL "FlockHuts$Parser" 54 14 4 [.null, .int 0, .int 0, .int 0] := ⟨RJ5, TJ5, tyJ5, rfl, in_J5, tyJ5_ok, q1806, q212, q84, fun j hj => by
  rcases (show j = 0 ∨ j = 1 ∨ j = 2 ∨ j = 3 by omega) with rfl | rfl | rfl | rfl <;> rfl⟩
theorem nl_X12_83 : NL "FlockHuts$Parser" 83 12 3 [.int 0, .null, .int 0] := ⟨RJ2, TJ2, tyJ2, rfl, in_J2, tyJ2_ok, q1779, q133, q81, fun j hj => by
  rcases (show j = 0 ∨ j = 1 ∨ j = 2 by omega) with rfl | rfl | rfl <;> rfl⟩
theorem nl_X8_14 : NL "FlockHuts$Placed" 14 7 2 [.int 0, .int 0] := ⟨RX9, TX9, tyX9, rfl, in_X9, tyX9_ok, q714, q715, q108, fun j hj => by
  rcases (show j = 0 ∨ j = 1 by omega) with rfl | rfl <;> rfl⟩
theorem nl_X7_8 : NL "FlockHuts$Refused" 8 6 8 [.null, .null, .null, .null, .null, .int 0, .int 0, .int 0] := ⟨RX7, TX7, tyX7, rfl, in_X7, tyX7_ok, q1172, q1173, q106, fun j hj => by
  rcases (show j = 0 ∨ j = 1 ∨ j = 2 ∨ j = 3 ∨ j = 4 ∨ j = 5 ∨ j = 6 ∨ j = 7 by omega) with rfl | rfl | rfl | rfl | rfl | rfl | rfl | rfl <;> rfl⟩
theorem nl_X4_10 : NL "FlockHuts$Sheep" 10 3 4 [.int 0, .int 0, .int 0, .int 0] := ⟨RX4, TX4, tyX4, rfl, in_X4, tyX4_ok, q461, q462, q95, fun j hj => by
  rcases (show j = 0 ∨ j = 1 ∨ j = 2 ∨ j = 3 by omega) with rfl | rfl | rfl | rfl <;> rfl⟩
theorem nl_X0_8 : NL "FlockHutsLaw" 8 0 8 [.null, .null, .null, .null, .null, .null, .int 0, .null] := ⟨RX1, TX1, tyX1, rfl, in_X1, tyX1_ok, q118, q119, q77, fun j hj => by
  rcases (show j = 0 ∨ j = 1 ∨ j = 2 ∨ j = 3 ∨ j = 4 ∨ j = 5 ∨ j = 6 ∨ j = 7 by omega) with rfl | rfl | rfl | rfl | rfl | rfl | rfl | rfl <;> rfl⟩
theorem nl_X0_123 : NL "FlockHutsLaw" 123 2 26 [.int 0, .null, .null, .null, .null, .null, .null, .int 0, .int 0, .null, .null, .null, .null, .null, .int 0, .int 0, .int 0, .int 0, .int 0, .int 0, .int 0, .int 0, .int 0, .int 0, .int 0, .int 0] := ⟨RX3, TX3, tyX3, rfl, in_X3, tyX3_ok, q1955, q1956, q87, fun j hj => by
  rcases (show j = 0 ∨ j = 1 ∨ j = 2 ∨ j = 3 ∨ j = 4 ∨ j = 5 ∨ j = 6 ∨ j = 7 ∨ j = 8 ∨ j = 9 ∨ j = 10 ∨ j = 11 ∨ j = 12 ∨ j = 13 ∨ j = 14 ∨ j = 15 ∨ j = 16 ∨ j = 17 ∨ j = 18 ∨ j = 19 ∨ j = 20 ∨ j = 21 ∨ j = 22 ∨ j = 23 ∨ j = 24 ∨ j = 25 by omega) with rfl | rfl | rfl | rfl | rfl | rfl | rfl | rfl | rfl | rfl | rfl | rfl | rfl | rfl | rfl | rfl | rfl | rfl | rfl | rfl | rfl | rfl | rfl | rfl | rfl | rfl <;> rfl⟩
theorem nl_J6_10 : NL "java/lang/String" 10 15 4 [.null, .int 0, .int 0, .int 0] := ⟨RJ6, TJ6, tyJ6, rfl, in_J6, tyJ6_ok, q1138, q948, q85, fun j hj => by
  rcases (show j = 0 ∨ j = 1 ∨ j = 2 ∨ j = 3 by omega) with rfl | rfl | rfl | rfl <;> rfl⟩
theorem nl_J5_18 : NL "java/lang/StringBuilder" 18 15 4 [.null, .int 0, .int 0, .int 0] := ⟨RJ6, TJ6, tyJ6, rfl, in_J6, tyJ6_ok, q947, q948, q85, fun j hj => by
  rcases (show j = 0 ∨ j = 1 ∨ j = 2 ∨ j = 3 by omega) with rfl | rfl | rfl | rfl <;> rfl⟩
theorem nl_J2_267 : NL "java/util/ArrayList" 267 16 4 [.int 0, .int 0, .int 0, .null] := ⟨RJ8, TJ8, tyJ8, rfl, in_J8, tyJ8_ok, q302, q303, q88, fun j hj => by
  rcases (show j = 0 ∨ j = 1 ∨ j = 2 ∨ j = 3 by omega) with rfl | rfl | rfl | rfl <;> rfl⟩
theorem nl_J17_45 : NL "java/util/Arrays" 45 14 4 [.null, .int 0, .int 0, .int 0] := ⟨RJ5, TJ5, tyJ5, rfl, in_J5, tyJ5_ok, q988, q212, q84, fun j hj => by
  rcases (show j = 0 ∨ j = 1 ∨ j = 2 ∨ j = 3 by omega) with rfl | rfl | rfl | rfl <;> rfl⟩
theorem nl_J15_89 : NL "jdk/internal/util/ArraysSupport" 89 14 4 [.null, .int 0, .int 0, .int 0] := ⟨RJ5, TJ5, tyJ5, rfl, in_J5, tyJ5_ok, q1122, q212, q84, fun j hj => by
  rcases (show j = 0 ∨ j = 1 ∨ j = 2 ∨ j = 3 by omega) with rfl | rfl | rfl | rfl <;> rfl⟩
theorem dn_J0_init : DN yJ0_init 0 := ⟨by decide +kernel, by decide +kernel, by decide +kernel⟩
theorem dn_J10_init : DN yJ10_init 0 := ⟨by decide +kernel, by decide +kernel, by decide +kernel⟩
theorem dn_J10_init_2 : DN yJ10_init_2 1 := ⟨by decide +kernel, by decide +kernel, by decide +kernel⟩
theorem dn_J10_init_3 : DN yJ10_init_3 4 := ⟨by decide +kernel, by decide +kernel, by decide +kernel⟩
theorem dn_J11_init : DN yJ11_init 0 := ⟨by decide +kernel, by decide +kernel, by decide +kernel⟩
theorem dn_J11_init_2 : DN yJ11_init_2 1 := ⟨by decide +kernel, by decide +kernel, by decide +kernel⟩
theorem dn_J12_init : DN yJ12_init 0 := ⟨by decide +kernel, by decide +kernel, by decide +kernel⟩
theorem dn_J13_checkIndex : DN yJ13_checkIndex 2 := ⟨by decide +kernel, by decide +kernel, by decide +kernel⟩
theorem dn_J14_checkFromIndexSize : DN yJ14_checkFromIndexSize 4 := ⟨by decide +kernel, by decide +kernel, by decide +kernel⟩
theorem dn_J14_checkFromToIndex : DN yJ14_checkFromToIndex 4 := ⟨by decide +kernel, by decide +kernel, by decide +kernel⟩
theorem dn_J14_checkIndex : DN yJ14_checkIndex 3 := ⟨by decide +kernel, by decide +kernel, by decide +kernel⟩
theorem dn_J15_hashCode : DN yJ15_hashCode 4 := ⟨by decide +kernel, by decide +kernel, by decide +kernel⟩
theorem dn_J15_hashCode_2 : DN yJ15_hashCode_2 4 := ⟨by decide +kernel, by decide +kernel, by decide +kernel⟩
theorem dn_J15_hashCode_3 : DN yJ15_hashCode_3 4 := ⟨by decide +kernel, by decide +kernel, by decide +kernel⟩
theorem dn_J15_hashCode_4 : DN yJ15_hashCode_4 4 := ⟨by decide +kernel, by decide +kernel, by decide +kernel⟩
theorem dn_J15_hugeLength : DN yJ15_hugeLength 2 := ⟨by decide +kernel, by decide +kernel, by decide +kernel⟩
theorem dn_J15_newLength : DN yJ15_newLength 3 := ⟨by decide +kernel, by decide +kernel, by decide +kernel⟩
theorem dn_J15_signedHashCode : DN yJ15_signedHashCode 4 := ⟨by decide +kernel, by decide +kernel, by decide +kernel⟩
theorem dn_J15_utf16hashCode : DN yJ15_utf16hashCode 4 := ⟨by decide +kernel, by decide +kernel, by decide +kernel⟩
theorem dn_J15_vectorizedHashCode : DN yJ15_vectorizedHashCode 5 := ⟨by decide +kernel, by decide +kernel, by decide +kernel⟩
theorem dn_J16_max : DN yJ16_max 2 := ⟨by decide +kernel, by decide +kernel, by decide +kernel⟩
theorem dn_J16_min : DN yJ16_min 2 := ⟨by decide +kernel, by decide +kernel, by decide +kernel⟩
theorem dn_J17_checkLength : DN yJ17_checkLength 2 := ⟨by decide +kernel, by decide +kernel, by decide +kernel⟩
theorem dn_J17_copyOf : DN yJ17_copyOf 2 := ⟨by decide +kernel, by decide +kernel, by decide +kernel⟩
theorem dn_J17_copyOfRange : DN yJ17_copyOfRange 3 := ⟨by decide +kernel, by decide +kernel, by decide +kernel⟩
theorem dn_J17_copyOfRangeByte : DN yJ17_copyOfRangeByte 3 := ⟨by decide +kernel, by decide +kernel, by decide +kernel⟩
theorem dn_J17_copyOf_2 : DN yJ17_copyOf_2 3 := ⟨by decide +kernel, by decide +kernel, by decide +kernel⟩
theorem dn_J17_copyOf_3 : DN yJ17_copyOf_3 2 := ⟨by decide +kernel, by decide +kernel, by decide +kernel⟩
theorem dn_J18_canEncode : DN yJ18_canEncode 1 := ⟨by decide +kernel, by decide +kernel, by decide +kernel⟩
theorem dn_J18_charAt : DN yJ18_charAt 2 := ⟨by decide +kernel, by decide +kernel, by decide +kernel⟩
theorem dn_J18_equals : DN yJ18_equals 2 := ⟨by decide +kernel, by decide +kernel, by decide +kernel⟩
theorem dn_J18_hashCode : DN yJ18_hashCode 1 := ⟨by decide +kernel, by decide +kernel, by decide +kernel⟩
theorem dn_J18_indexOf : DN yJ18_indexOf 2 := ⟨by decide +kernel, by decide +kernel, by decide +kernel⟩
theorem dn_J18_indexOf_2 : DN yJ18_indexOf_2 5 := ⟨by decide +kernel, by decide +kernel, by decide +kernel⟩
theorem dn_J18_inflate : DN yJ18_inflate 5 := ⟨by decide +kernel, by decide +kernel, by decide +kernel⟩
theorem dn_J19_init : DN yJ19_init 1 := ⟨by decide +kernel, by decide +kernel, by decide +kernel⟩
theorem dn_J19_init_2 : DN yJ19_init_2 0 := ⟨by decide +kernel, by decide +kernel, by decide +kernel⟩
theorem dn_J1_init : DN yJ1_init 0 := ⟨by decide +kernel, by decide +kernel, by decide +kernel⟩
theorem dn_J20_getChars : DN yJ20_getChars 3 := ⟨by decide +kernel, by decide +kernel, by decide +kernel⟩
theorem dn_J20_stringSize : DN yJ20_stringSize 1 := ⟨by decide +kernel, by decide +kernel, by decide +kernel⟩
theorem dn_J21_init : DN yJ21_init 0 := ⟨by decide +kernel, by decide +kernel, by decide +kernel⟩
theorem dn_J21_init_2 : DN yJ21_init_2 1 := ⟨by decide +kernel, by decide +kernel, by decide +kernel⟩
theorem dn_J22_init : DN yJ22_init 0 := ⟨by decide +kernel, by decide +kernel, by decide +kernel⟩
theorem dn_J23_init : DN yJ23_init 1 := ⟨by decide +kernel, by decide +kernel, by decide +kernel⟩
theorem dn_J23_init_2 : DN yJ23_init_2 0 := ⟨by decide +kernel, by decide +kernel, by decide +kernel⟩
theorem dn_J24_init : DN yJ24_init 1 := ⟨by decide +kernel, by decide +kernel, by decide +kernel⟩
theorem dn_J25_init : DN yJ25_init 1 := ⟨by decide +kernel, by decide +kernel, by decide +kernel⟩
theorem dn_J25_init_2 : DN yJ25_init_2 0 := ⟨by decide +kernel, by decide +kernel, by decide +kernel⟩
theorem dn_J26_equals : DN yJ26_equals 1 := ⟨by decide +kernel, by decide +kernel, by decide +kernel⟩
theorem dn_J26_init : DN yJ26_init 0 := ⟨by decide +kernel, by decide +kernel, by decide +kernel⟩
theorem dn_J27_getUTF16Char : DN yJ27_getUTF16Char 2 := ⟨by decide +kernel, by decide +kernel, by decide +kernel⟩
theorem dn_J2_add : DN yJ2_add 1 := ⟨by decide +kernel, by decide +kernel, by decide +kernel⟩
theorem dn_J2_add_2 : DN yJ2_add_2 3 := ⟨by decide +kernel, by decide +kernel, by decide +kernel⟩
theorem dn_J2_elementData : DN yJ2_elementData 1 := ⟨by decide +kernel, by decide +kernel, by decide +kernel⟩
theorem dn_J2_fastRemove : DN yJ2_fastRemove 2 := ⟨by decide +kernel, by decide +kernel, by decide +kernel⟩
theorem dn_J2_get : DN yJ2_get 1 := ⟨by decide +kernel, by decide +kernel, by decide +kernel⟩
theorem dn_J2_grow : DN yJ2_grow 0 := ⟨by decide +kernel, by decide +kernel, by decide +kernel⟩
theorem dn_J2_grow_2 : DN yJ2_grow_2 1 := ⟨by decide +kernel, by decide +kernel, by decide +kernel⟩
theorem dn_J2_indexOf : DN yJ2_indexOf 1 := ⟨by decide +kernel, by decide +kernel, by decide +kernel⟩
theorem dn_J2_indexOfRange : DN yJ2_indexOfRange 3 := ⟨by decide +kernel, by decide +kernel, by decide +kernel⟩
theorem dn_J2_init : DN yJ2_init 0 := ⟨by decide +kernel, by decide +kernel, by decide +kernel⟩
theorem dn_J2_isEmpty : DN yJ2_isEmpty 0 := ⟨by decide +kernel, by decide +kernel, by decide +kernel⟩
theorem dn_J2_iterator : DN yJ2_iterator 0 := ⟨by decide +kernel, by decide +kernel, by decide +kernel⟩
theorem dn_J2_remove : DN yJ2_remove 1 := ⟨by decide +kernel, by decide +kernel, by decide +kernel⟩
theorem dn_J2_remove_2 : DN yJ2_remove_2 1 := ⟨by decide +kernel, by decide +kernel, by decide +kernel⟩
theorem dn_J2_size : DN yJ2_size 0 := ⟨by decide +kernel, by decide +kernel, by decide +kernel⟩
theorem dn_J3_addLast : DN yJ3_addLast 1 := ⟨by decide +kernel, by decide +kernel, by decide +kernel⟩
theorem dn_J3_circularClear : DN yJ3_circularClear 3 := ⟨by decide +kernel, by decide +kernel, by decide +kernel⟩
theorem dn_J3_clear : DN yJ3_clear 0 := ⟨by decide +kernel, by decide +kernel, by decide +kernel⟩
theorem dn_J3_dec : DN yJ3_dec 2 := ⟨by decide +kernel, by decide +kernel, by decide +kernel⟩
theorem dn_J3_elementAt : DN yJ3_elementAt 2 := ⟨by decide +kernel, by decide +kernel, by decide +kernel⟩
theorem dn_J3_grow : DN yJ3_grow 1 := ⟨by decide +kernel, by decide +kernel, by decide +kernel⟩
theorem dn_J3_inc : DN yJ3_inc 2 := ⟨by decide +kernel, by decide +kernel, by decide +kernel⟩
theorem dn_J3_init : DN yJ3_init 0 := ⟨by decide +kernel, by decide +kernel, by decide +kernel⟩
theorem dn_J3_isEmpty : DN yJ3_isEmpty 0 := ⟨by decide +kernel, by decide +kernel, by decide +kernel⟩
theorem dn_J3_newCapacity : DN yJ3_newCapacity 2 := ⟨by decide +kernel, by decide +kernel, by decide +kernel⟩
theorem dn_J3_pollFirst : DN yJ3_pollFirst 0 := ⟨by decide +kernel, by decide +kernel, by decide +kernel⟩
theorem dn_J3_pollLast : DN yJ3_pollLast 0 := ⟨by decide +kernel, by decide +kernel, by decide +kernel⟩
theorem dn_J3_removeFirst : DN yJ3_removeFirst 0 := ⟨by decide +kernel, by decide +kernel, by decide +kernel⟩
theorem dn_J3_removeLast : DN yJ3_removeLast 0 := ⟨by decide +kernel, by decide +kernel, by decide +kernel⟩
theorem dn_J3_size : DN yJ3_size 0 := ⟨by decide +kernel, by decide +kernel, by decide +kernel⟩
theorem dn_J3_sub : DN yJ3_sub 3 := ⟨by decide +kernel, by decide +kernel, by decide +kernel⟩
theorem dn_J4_append : DN yJ4_append 1 := ⟨by decide +kernel, by decide +kernel, by decide +kernel⟩
theorem dn_J4_appendNull : DN yJ4_appendNull 0 := ⟨by decide +kernel, by decide +kernel, by decide +kernel⟩
theorem dn_J4_append_2 : DN yJ4_append_2 1 := ⟨by decide +kernel, by decide +kernel, by decide +kernel⟩
theorem dn_J4_append_3 : DN yJ4_append_3 1 := ⟨by decide +kernel, by decide +kernel, by decide +kernel⟩
theorem dn_J4_charAt : DN yJ4_charAt 1 := ⟨by decide +kernel, by decide +kernel, by decide +kernel⟩
theorem dn_J4_ensureCapacityInternal : DN yJ4_ensureCapacityInternal 1 := ⟨by decide +kernel, by decide +kernel, by decide +kernel⟩
theorem dn_J4_getValue : DN yJ4_getValue 0 := ⟨by decide +kernel, by decide +kernel, by decide +kernel⟩
theorem dn_J4_inflate : DN yJ4_inflate 0 := ⟨by decide +kernel, by decide +kernel, by decide +kernel⟩
theorem dn_J4_inflateIfNeededFor : DN yJ4_inflateIfNeededFor 1 := ⟨by decide +kernel, by decide +kernel, by decide +kernel⟩
theorem dn_J4_init : DN yJ4_init 1 := ⟨by decide +kernel, by decide +kernel, by decide +kernel⟩
theorem dn_J4_isLatin1 : DN yJ4_isLatin1 0 := ⟨by decide +kernel, by decide +kernel, by decide +kernel⟩
theorem dn_J4_length : DN yJ4_length 0 := ⟨by decide +kernel, by decide +kernel, by decide +kernel⟩
theorem dn_J4_newCapacity : DN yJ4_newCapacity 1 := ⟨by decide +kernel, by decide +kernel, by decide +kernel⟩
theorem dn_J4_putStringAt : DN yJ4_putStringAt 2 := ⟨by decide +kernel, by decide +kernel, by decide +kernel⟩
theorem dn_J5_append : DN yJ5_append 1 := ⟨by decide +kernel, by decide +kernel, by decide +kernel⟩
theorem dn_J5_append_2 : DN yJ5_append_2 1 := ⟨by decide +kernel, by decide +kernel, by decide +kernel⟩
theorem dn_J5_append_3 : DN yJ5_append_3 1 := ⟨by decide +kernel, by decide +kernel, by decide +kernel⟩
theorem dn_J5_charAt : DN yJ5_charAt 1 := ⟨by decide +kernel, by decide +kernel, by decide +kernel⟩
theorem dn_J5_init : DN yJ5_init 0 := ⟨by decide +kernel, by decide +kernel, by decide +kernel⟩
theorem dn_J5_length : DN yJ5_length 0 := ⟨by decide +kernel, by decide +kernel, by decide +kernel⟩
theorem dn_J5_toString : DN yJ5_toString 0 := ⟨by decide +kernel, by decide +kernel, by decide +kernel⟩
theorem dn_J6_charAt : DN yJ6_charAt 1 := ⟨by decide +kernel, by decide +kernel, by decide +kernel⟩
theorem dn_J6_checkBoundsBeginEnd : DN yJ6_checkBoundsBeginEnd 3 := ⟨by decide +kernel, by decide +kernel, by decide +kernel⟩
theorem dn_J6_checkBoundsOffCount : DN yJ6_checkBoundsOffCount 3 := ⟨by decide +kernel, by decide +kernel, by decide +kernel⟩
theorem dn_J6_checkIndex : DN yJ6_checkIndex 2 := ⟨by decide +kernel, by decide +kernel, by decide +kernel⟩
theorem dn_J6_coder : DN yJ6_coder 0 := ⟨by decide +kernel, by decide +kernel, by decide +kernel⟩
theorem dn_J6_contains : DN yJ6_contains 1 := ⟨by decide +kernel, by decide +kernel, by decide +kernel⟩
theorem dn_J6_equals : DN yJ6_equals 1 := ⟨by decide +kernel, by decide +kernel, by decide +kernel⟩
theorem dn_J6_getBytes : DN yJ6_getBytes 3 := ⟨by decide +kernel, by decide +kernel, by decide +kernel⟩
theorem dn_J6_hashCode : DN yJ6_hashCode 0 := ⟨by decide +kernel, by decide +kernel, by decide +kernel⟩
theorem dn_J6_indexOf : DN yJ6_indexOf 1 := ⟨by decide +kernel, by decide +kernel, by decide +kernel⟩
theorem dn_J6_init : DN yJ6_init 1 := ⟨by decide +kernel, by decide +kernel, by decide +kernel⟩
theorem dn_J6_init_2 : DN yJ6_init_2 2 := ⟨by decide +kernel, by decide +kernel, by decide +kernel⟩
theorem dn_J6_isLatin1 : DN yJ6_isLatin1 0 := ⟨by decide +kernel, by decide +kernel, by decide +kernel⟩
theorem dn_J6_length : DN yJ6_length 0 := ⟨by decide +kernel, by decide +kernel, by decide +kernel⟩
theorem dn_J6_toString : DN yJ6_toString 0 := ⟨by decide +kernel, by decide +kernel, by decide +kernel⟩
theorem dn_J8_checkForComodification : DN yJ8_checkForComodification 0 := ⟨by decide +kernel, by decide +kernel, by decide +kernel⟩
theorem dn_J8_hasNext : DN yJ8_hasNext 0 := ⟨by decide +kernel, by decide +kernel, by decide +kernel⟩
theorem dn_J8_init : DN yJ8_init 1 := ⟨by decide +kernel, by decide +kernel, by decide +kernel⟩
theorem dn_J8_next : DN yJ8_next 0 := ⟨by decide +kernel, by decide +kernel, by decide +kernel⟩
theorem dn_J9_init : DN yJ9_init 0 := ⟨by decide +kernel, by decide +kernel, by decide +kernel⟩
theorem dn_J9_init_2 : DN yJ9_init_2 1 := ⟨by decide +kernel, by decide +kernel, by decide +kernel⟩
theorem dn_J9_init_3 : DN yJ9_init_3 4 := ⟨by decide +kernel, by decide +kernel, by decide +kernel⟩
theorem dn_X0_account : DN yX0_account 3 := ⟨by decide +kernel, by decide +kernel, by decide +kernel⟩
theorem dn_X0_apart : DN yX0_apart 4 := ⟨by decide +kernel, by decide +kernel, by decide +kernel⟩
theorem dn_X0_append : DN yX0_append 3 := ⟨by decide +kernel, by decide +kernel, by decide +kernel⟩
theorem dn_X0_character : DN yX0_character 3 := ⟨by decide +kernel, by decide +kernel, by decide +kernel⟩
theorem dn_X0_dog : DN yX0_dog 4 := ⟨by decide +kernel, by decide +kernel, by decide +kernel⟩
theorem dn_X0_dogAt : DN yX0_dogAt 3 := ⟨by decide +kernel, by decide +kernel, by decide +kernel⟩
theorem dn_X0_errorPosition : DN yX0_errorPosition 2 := ⟨by decide +kernel, by decide +kernel, by decide +kernel⟩
theorem dn_X0_fetch : DN yX0_fetch 3 := ⟨by decide +kernel, by decide +kernel, by decide +kernel⟩
theorem dn_X0_hut : DN yX0_hut 4 := ⟨by decide +kernel, by decide +kernel, by decide +kernel⟩
theorem dn_X0_hutLine : DN yX0_hutLine 3 := ⟨by decide +kernel, by decide +kernel, by decide +kernel⟩
theorem dn_X0_hutOf : DN yX0_hutOf 4 := ⟨by decide +kernel, by decide +kernel, by decide +kernel⟩
theorem dn_X0_leave : DN yX0_leave 3 := ⟨by decide +kernel, by decide +kernel, by decide +kernel⟩
theorem dn_X0_meanDistance : DN yX0_meanDistance 2 := ⟨by decide +kernel, by decide +kernel, by decide +kernel⟩
theorem dn_X0_move : DN yX0_move 5 := ⟨by decide +kernel, by decide +kernel, by decide +kernel⟩
theorem dn_X0_nearest : DN yX0_nearest 4 := ⟨by decide +kernel, by decide +kernel, by decide +kernel⟩
theorem dn_X0_ranked : DN yX0_ranked 3 := ⟨by decide +kernel, by decide +kernel, by decide +kernel⟩
theorem dn_X0_read : DN yX0_read 2 := ⟨by decide +kernel, by decide +kernel, by decide +kernel⟩
theorem dn_X0_refusal : DN yX0_refusal 3 := ⟨by decide +kernel, by decide +kernel, by decide +kernel⟩
theorem dn_X0_refusedItem : DN yX0_refusedItem 2 := ⟨by decide +kernel, by decide +kernel, by decide +kernel⟩
theorem dn_X0_restore : DN yX0_restore 2 := ⟨by decide +kernel, by decide +kernel, by decide +kernel⟩
theorem dn_X0_round : DN yX0_round 2 := ⟨by decide +kernel, by decide +kernel, by decide +kernel⟩
theorem dn_X0_settle : DN yX0_settle 3 := ⟨by decide +kernel, by decide +kernel, by decide +kernel⟩
theorem dn_X0_sheep : DN yX0_sheep 5 := ⟨by decide +kernel, by decide +kernel, by decide +kernel⟩
theorem dn_X0_sheepOf : DN yX0_sheepOf 4 := ⟨by decide +kernel, by decide +kernel, by decide +kernel⟩
theorem dn_X0_spreadAfter : DN yX0_spreadAfter 3 := ⟨by decide +kernel, by decide +kernel, by decide +kernel⟩
theorem dn_X0_spreadWith : DN yX0_spreadWith 4 := ⟨by decide +kernel, by decide +kernel, by decide +kernel⟩
theorem dn_X0_stray : DN yX0_stray 3 := ⟨by decide +kernel, by decide +kernel, by decide +kernel⟩
theorem dn_X0_strayShare : DN yX0_strayShare 2 := ⟨by decide +kernel, by decide +kernel, by decide +kernel⟩
theorem dn_X0_strike : DN yX0_strike 3 := ⟨by decide +kernel, by decide +kernel, by decide +kernel⟩
theorem dn_X0_undo : DN yX0_undo 2 := ⟨by decide +kernel, by decide +kernel, by decide +kernel⟩
theorem dn_X0_weigh : DN yX0_weigh 4 := ⟨by decide +kernel, by decide +kernel, by decide +kernel⟩
theorem dn_X10_count : DN yX10_count 0 := ⟨by decide +kernel, by decide +kernel, by decide +kernel⟩
theorem dn_X10_distances : DN yX10_distances 0 := ⟨by decide +kernel, by decide +kernel, by decide +kernel⟩
theorem dn_X10_farthest : DN yX10_farthest 0 := ⟨by decide +kernel, by decide +kernel, by decide +kernel⟩
theorem dn_X10_init : DN yX10_init 2 := ⟨by decide +kernel, by decide +kernel, by decide +kernel⟩
theorem dn_X10_isEmpty : DN yX10_isEmpty 0 := ⟨by decide +kernel, by decide +kernel, by decide +kernel⟩
theorem dn_X10_iterator : DN yX10_iterator 0 := ⟨by decide +kernel, by decide +kernel, by decide +kernel⟩
theorem dn_X10_middle : DN yX10_middle 0 := ⟨by decide +kernel, by decide +kernel, by decide +kernel⟩
theorem dn_X10_spread : DN yX10_spread 0 := ⟨by decide +kernel, by decide +kernel, by decide +kernel⟩
theorem dn_X10_weight : DN yX10_weight 0 := ⟨by decide +kernel, by decide +kernel, by decide +kernel⟩
theorem dn_X11_hasNext : DN yX11_hasNext 0 := ⟨by decide +kernel, by decide +kernel, by decide +kernel⟩
theorem dn_X11_init : DN yX11_init 1 := ⟨by decide +kernel, by decide +kernel, by decide +kernel⟩
theorem dn_X11_next : DN yX11_next 0 := ⟨by decide +kernel, by decide +kernel, by decide +kernel⟩
theorem dn_X11_next_2 : DN yX11_next_2 0 := ⟨by decide +kernel, by decide +kernel, by decide +kernel⟩
theorem dn_X11_next_3 : DN yX11_next_3 1 := ⟨by decide +kernel, by decide +kernel, by decide +kernel⟩
theorem dn_X12_init : DN yX12_init 1 := ⟨by decide +kernel, by decide +kernel, by decide +kernel⟩
theorem dn_X12_isNext : DN yX12_isNext 2 := ⟨by decide +kernel, by decide +kernel, by decide +kernel⟩
theorem dn_X12_number : DN yX12_number 0 := ⟨by decide +kernel, by decide +kernel, by decide +kernel⟩
theorem dn_X12_order : DN yX12_order 0 := ⟨by decide +kernel, by decide +kernel, by decide +kernel⟩
theorem dn_X12_orders : DN yX12_orders 0 := ⟨by decide +kernel, by decide +kernel, by decide +kernel⟩
theorem dn_X12_take : DN yX12_take 2 := ⟨by decide +kernel, by decide +kernel, by decide +kernel⟩
theorem dn_X12_word : DN yX12_word 0 := ⟨by decide +kernel, by decide +kernel, by decide +kernel⟩
theorem dn_X13_init : DN yX13_init 1 := ⟨by decide +kernel, by decide +kernel, by decide +kernel⟩
theorem dn_X1_account : DN yX1_account 1 := ⟨by decide +kernel, by decide +kernel, by decide +kernel⟩
theorem dn_X1_apart : DN yX1_apart 2 := ⟨by decide +kernel, by decide +kernel, by decide +kernel⟩
theorem dn_X1_append : DN yX1_append 1 := ⟨by decide +kernel, by decide +kernel, by decide +kernel⟩
theorem dn_X1_become : DN yX1_become 1 := ⟨by decide +kernel, by decide +kernel, by decide +kernel⟩
theorem dn_X1_change : DN yX1_change 2 := ⟨by decide +kernel, by decide +kernel, by decide +kernel⟩
theorem dn_X1_character : DN yX1_character 1 := ⟨by decide +kernel, by decide +kernel, by decide +kernel⟩
theorem dn_X1_checkArgument : DN yX1_checkArgument 1 := ⟨by decide +kernel, by decide +kernel, by decide +kernel⟩
theorem dn_X1_checkElement : DN yX1_checkElement 1 := ⟨by decide +kernel, by decide +kernel, by decide +kernel⟩
theorem dn_X1_checkIndex : DN yX1_checkIndex 1 := ⟨by decide +kernel, by decide +kernel, by decide +kernel⟩
theorem dn_X1_checkNumbers : DN yX1_checkNumbers 1 := ⟨by decide +kernel, by decide +kernel, by decide +kernel⟩
theorem dn_X1_checkPlaces : DN yX1_checkPlaces 1 := ⟨by decide +kernel, by decide +kernel, by decide +kernel⟩
theorem dn_X1_checkState : DN yX1_checkState 1 := ⟨by decide +kernel, by decide +kernel, by decide +kernel⟩
theorem dn_X1_clear : DN yX1_clear 0 := ⟨by decide +kernel, by decide +kernel, by decide +kernel⟩
theorem dn_X1_dog : DN yX1_dog 2 := ⟨by decide +kernel, by decide +kernel, by decide +kernel⟩
theorem dn_X1_dogAt : DN yX1_dogAt 1 := ⟨by decide +kernel, by decide +kernel, by decide +kernel⟩
theorem dn_X1_dogsAt : DN yX1_dogsAt 1 := ⟨by decide +kernel, by decide +kernel, by decide +kernel⟩
theorem dn_X1_emptyHuts : DN yX1_emptyHuts 0 := ⟨by decide +kernel, by decide +kernel, by decide +kernel⟩
theorem dn_X1_errorPosition : DN yX1_errorPosition 0 := ⟨by decide +kernel, by decide +kernel, by decide +kernel⟩
theorem dn_X1_fetch : DN yX1_fetch 1 := ⟨by decide +kernel, by decide +kernel, by decide +kernel⟩
theorem dn_X1_hut : DN yX1_hut 2 := ⟨by decide +kernel, by decide +kernel, by decide +kernel⟩
theorem dn_X1_hutLine : DN yX1_hutLine 1 := ⟨by decide +kernel, by decide +kernel, by decide +kernel⟩
theorem dn_X1_hutOf : DN yX1_hutOf 2 := ⟨by decide +kernel, by decide +kernel, by decide +kernel⟩
theorem dn_X1_inRange : DN yX1_inRange 3 := ⟨by decide +kernel, by decide +kernel, by decide +kernel⟩
theorem dn_X1_init : DN yX1_init 0 := ⟨by decide +kernel, by decide +kernel, by decide +kernel⟩
theorem dn_X1_isRight : DN yX1_isRight 0 := ⟨by decide +kernel, by decide +kernel, by decide +kernel⟩
theorem dn_X1_isStill : DN yX1_isStill 0 := ⟨by decide +kernel, by decide +kernel, by decide +kernel⟩
theorem dn_X1_leave : DN yX1_leave 1 := ⟨by decide +kernel, by decide +kernel, by decide +kernel⟩
theorem dn_X1_line : DN yX1_line 0 := ⟨by decide +kernel, by decide +kernel, by decide +kernel⟩
theorem dn_X1_meanDistance : DN yX1_meanDistance 0 := ⟨by decide +kernel, by decide +kernel, by decide +kernel⟩
theorem dn_X1_move : DN yX1_move 3 := ⟨by decide +kernel, by decide +kernel, by decide +kernel⟩
theorem dn_X1_nearest : DN yX1_nearest 2 := ⟨by decide +kernel, by decide +kernel, by decide +kernel⟩
theorem dn_X1_ranked : DN yX1_ranked 1 := ⟨by decide +kernel, by decide +kernel, by decide +kernel⟩
theorem dn_X1_read : DN yX1_read 0 := ⟨by decide +kernel, by decide +kernel, by decide +kernel⟩
theorem dn_X1_refusal : DN yX1_refusal 1 := ⟨by decide +kernel, by decide +kernel, by decide +kernel⟩
theorem dn_X1_refusedItem : DN yX1_refusedItem 0 := ⟨by decide +kernel, by decide +kernel, by decide +kernel⟩
theorem dn_X1_restore : DN yX1_restore 0 := ⟨by decide +kernel, by decide +kernel, by decide +kernel⟩
theorem dn_X1_round : DN yX1_round 0 := ⟨by decide +kernel, by decide +kernel, by decide +kernel⟩
theorem dn_X1_roundsToStill : DN yX1_roundsToStill 0 := ⟨by decide +kernel, by decide +kernel, by decide +kernel⟩
theorem dn_X1_settle : DN yX1_settle 1 := ⟨by decide +kernel, by decide +kernel, by decide +kernel⟩
theorem dn_X1_sheep : DN yX1_sheep 3 := ⟨by decide +kernel, by decide +kernel, by decide +kernel⟩
theorem dn_X1_sheepOf : DN yX1_sheepOf 2 := ⟨by decide +kernel, by decide +kernel, by decide +kernel⟩
theorem dn_X1_snapshot : DN yX1_snapshot 0 := ⟨by decide +kernel, by decide +kernel, by decide +kernel⟩
theorem dn_X1_spread : DN yX1_spread 1 := ⟨by decide +kernel, by decide +kernel, by decide +kernel⟩
theorem dn_X1_spreadAfter : DN yX1_spreadAfter 1 := ⟨by decide +kernel, by decide +kernel, by decide +kernel⟩
theorem dn_X1_spreadWith : DN yX1_spreadWith 2 := ⟨by decide +kernel, by decide +kernel, by decide +kernel⟩
theorem dn_X1_stray : DN yX1_stray 1 := ⟨by decide +kernel, by decide +kernel, by decide +kernel⟩
theorem dn_X1_strayShare : DN yX1_strayShare 0 := ⟨by decide +kernel, by decide +kernel, by decide +kernel⟩
theorem dn_X1_strays : DN yX1_strays 0 := ⟨by decide +kernel, by decide +kernel, by decide +kernel⟩
theorem dn_X1_strike : DN yX1_strike 1 := ⟨by decide +kernel, by decide +kernel, by decide +kernel⟩
theorem dn_X1_takeOrders : DN yX1_takeOrders 0 := ⟨by decide +kernel, by decide +kernel, by decide +kernel⟩
theorem dn_X1_undo : DN yX1_undo 0 := ⟨by decide +kernel, by decide +kernel, by decide +kernel⟩
theorem dn_X1_weigh : DN yX1_weigh 2 := ⟨by decide +kernel, by decide +kernel, by decide +kernel⟩
theorem dn_X1_weights : DN yX1_weights 0 := ⟨by decide +kernel, by decide +kernel, by decide +kernel⟩
theorem dn_X2_belong : DN yX2_belong 2 := ⟨by decide +kernel, by decide +kernel, by decide +kernel⟩
theorem dn_X2_checkDog : DN yX2_checkDog 1 := ⟨by decide +kernel, by decide +kernel, by decide +kernel⟩
theorem dn_X2_checkFree : DN yX2_checkFree 1 := ⟨by decide +kernel, by decide +kernel, by decide +kernel⟩
theorem dn_X2_checkHut : DN yX2_checkHut 1 := ⟨by decide +kernel, by decide +kernel, by decide +kernel⟩
theorem dn_X2_checkHuts : DN yX2_checkHuts 2 := ⟨by decide +kernel, by decide +kernel, by decide +kernel⟩
theorem dn_X2_checkRounds : DN yX2_checkRounds 0 := ⟨by decide +kernel, by decide +kernel, by decide +kernel⟩
theorem dn_X2_come : DN yX2_come 3 := ⟨by decide +kernel, by decide +kernel, by decide +kernel⟩
theorem dn_X2_copy : DN yX2_copy 0 := ⟨by decide +kernel, by decide +kernel, by decide +kernel⟩
theorem dn_X2_distance : DN yX2_distance 1 := ⟨by decide +kernel, by decide +kernel, by decide +kernel⟩
theorem dn_X2_dog : DN yX2_dog 2 := ⟨by decide +kernel, by decide +kernel, by decide +kernel⟩
theorem dn_X2_fetch : DN yX2_fetch 1 := ⟨by decide +kernel, by decide +kernel, by decide +kernel⟩
theorem dn_X2_flock : DN yX2_flock 1 := ⟨by decide +kernel, by decide +kernel, by decide +kernel⟩
theorem dn_X2_hutAt : DN yX2_hutAt 1 := ⟨by decide +kernel, by decide +kernel, by decide +kernel⟩
theorem dn_X2_init : DN yX2_init 0 := ⟨by decide +kernel, by decide +kernel, by decide +kernel⟩
theorem dn_X2_isAhead : DN yX2_isAhead 2 := ⟨by decide +kernel, by decide +kernel, by decide +kernel⟩
theorem dn_X2_isRight : DN yX2_isRight 0 := ⟨by decide +kernel, by decide +kernel, by decide +kernel⟩
theorem dn_X2_isStill : DN yX2_isStill 0 := ⟨by decide +kernel, by decide +kernel, by decide +kernel⟩
theorem dn_X2_isStray : DN yX2_isStray 1 := ⟨by decide +kernel, by decide +kernel, by decide +kernel⟩
theorem dn_X2_leave : DN yX2_leave 1 := ⟨by decide +kernel, by decide +kernel, by decide +kernel⟩
theorem dn_X2_lost : DN yX2_lost 0 := ⟨by decide +kernel, by decide +kernel, by decide +kernel⟩
theorem dn_X2_makeRound : DN yX2_makeRound 0 := ⟨by decide +kernel, by decide +kernel, by decide +kernel⟩
theorem dn_X2_move : DN yX2_move 3 := ⟨by decide +kernel, by decide +kernel, by decide +kernel⟩
theorem dn_X2_nearest : DN yX2_nearest 1 := ⟨by decide +kernel, by decide +kernel, by decide +kernel⟩
theorem dn_X2_ranked : DN yX2_ranked 1 := ⟨by decide +kernel, by decide +kernel, by decide +kernel⟩
theorem dn_X2_round : DN yX2_round 0 := ⟨by decide +kernel, by decide +kernel, by decide +kernel⟩
theorem dn_X2_roundsToStill : DN yX2_roundsToStill 0 := ⟨by decide +kernel, by decide +kernel, by decide +kernel⟩
theorem dn_X2_set : DN yX2_set 2 := ⟨by decide +kernel, by decide +kernel, by decide +kernel⟩
theorem dn_X2_settle : DN yX2_settle 1 := ⟨by decide +kernel, by decide +kernel, by decide +kernel⟩
theorem dn_X2_sheep : DN yX2_sheep 1 := ⟨by decide +kernel, by decide +kernel, by decide +kernel⟩
theorem dn_X2_spread : DN yX2_spread 0 := ⟨by decide +kernel, by decide +kernel, by decide +kernel⟩
theorem dn_X2_spreadAfter : DN yX2_spreadAfter 1 := ⟨by decide +kernel, by decide +kernel, by decide +kernel⟩
theorem dn_X2_spreadAgain : DN yX2_spreadAgain 0 := ⟨by decide +kernel, by decide +kernel, by decide +kernel⟩
theorem dn_X2_spreadWith : DN yX2_spreadWith 1 := ⟨by decide +kernel, by decide +kernel, by decide +kernel⟩
theorem dn_X2_strays : DN yX2_strays 0 := ⟨by decide +kernel, by decide +kernel, by decide +kernel⟩
theorem dn_X2_strike : DN yX2_strike 1 := ⟨by decide +kernel, by decide +kernel, by decide +kernel⟩
theorem dn_X2_told : DN yX2_told 0 := ⟨by decide +kernel, by decide +kernel, by decide +kernel⟩
theorem dn_X2_told_2 : DN yX2_told_2 1 := ⟨by decide +kernel, by decide +kernel, by decide +kernel⟩
theorem dn_X2_weigh : DN yX2_weigh 2 := ⟨by decide +kernel, by decide +kernel, by decide +kernel⟩
theorem dn_X2_without : DN yX2_without 2 := ⟨by decide +kernel, by decide +kernel, by decide +kernel⟩
theorem dn_X3_account : DN yX3_account 1 := ⟨by decide +kernel, by decide +kernel, by decide +kernel⟩
theorem dn_X3_allWeights : DN yX3_allWeights 0 := ⟨by decide +kernel, by decide +kernel, by decide +kernel⟩
theorem dn_X3_apart : DN yX3_apart 2 := ⟨by decide +kernel, by decide +kernel, by decide +kernel⟩
theorem dn_X3_append : DN yX3_append 1 := ⟨by decide +kernel, by decide +kernel, by decide +kernel⟩
theorem dn_X3_begins : DN yX3_begins 0 := ⟨by decide +kernel, by decide +kernel, by decide +kernel⟩
theorem dn_X3_belongs : DN yX3_belongs 2 := ⟨by decide +kernel, by decide +kernel, by decide +kernel⟩
theorem dn_X3_changed : DN yX3_changed 1 := ⟨by decide +kernel, by decide +kernel, by decide +kernel⟩
theorem dn_X3_character : DN yX3_character 1 := ⟨by decide +kernel, by decide +kernel, by decide +kernel⟩
theorem dn_X3_clear : DN yX3_clear 0 := ⟨by decide +kernel, by decide +kernel, by decide +kernel⟩
theorem dn_X3_comes : DN yX3_comes 3 := ⟨by decide +kernel, by decide +kernel, by decide +kernel⟩
theorem dn_X3_does : DN yX3_does 1 := ⟨by decide +kernel, by decide +kernel, by decide +kernel⟩
theorem dn_X3_dog : DN yX3_dog 2 := ⟨by decide +kernel, by decide +kernel, by decide +kernel⟩
theorem dn_X3_dogAt : DN yX3_dogAt 1 := ⟨by decide +kernel, by decide +kernel, by decide +kernel⟩
theorem dn_X3_dogsAt : DN yX3_dogsAt 1 := ⟨by decide +kernel, by decide +kernel, by decide +kernel⟩
theorem dn_X3_done : DN yX3_done 1 := ⟨by decide +kernel, by decide +kernel, by decide +kernel⟩
theorem dn_X3_emptyHuts : DN yX3_emptyHuts 0 := ⟨by decide +kernel, by decide +kernel, by decide +kernel⟩
theorem dn_X3_ends : DN yX3_ends 2 := ⟨by decide +kernel, by decide +kernel, by decide +kernel⟩
theorem dn_X3_errorPosition : DN yX3_errorPosition 0 := ⟨by decide +kernel, by decide +kernel, by decide +kernel⟩
theorem dn_X3_fails : DN yX3_fails 1 := ⟨by decide +kernel, by decide +kernel, by decide +kernel⟩
theorem dn_X3_far : DN yX3_far 2 := ⟨by decide +kernel, by decide +kernel, by decide +kernel⟩
theorem dn_X3_farTo : DN yX3_farTo 3 := ⟨by decide +kernel, by decide +kernel, by decide +kernel⟩
theorem dn_X3_farthest : DN yX3_farthest 1 := ⟨by decide +kernel, by decide +kernel, by decide +kernel⟩
theorem dn_X3_fetch : DN yX3_fetch 1 := ⟨by decide +kernel, by decide +kernel, by decide +kernel⟩
theorem dn_X3_fetches : DN yX3_fetches 1 := ⟨by decide +kernel, by decide +kernel, by decide +kernel⟩
theorem dn_X3_flock : DN yX3_flock 1 := ⟨by decide +kernel, by decide +kernel, by decide +kernel⟩
theorem dn_X3_forgets : DN yX3_forgets 0 := ⟨by decide +kernel, by decide +kernel, by decide +kernel⟩
theorem dn_X3_goes : DN yX3_goes 1 := ⟨by decide +kernel, by decide +kernel, by decide +kernel⟩
theorem dn_X3_goesRound : DN yX3_goesRound 0 := ⟨by decide +kernel, by decide +kernel, by decide +kernel⟩
theorem dn_X3_here : DN yX3_here 1 := ⟨by decide +kernel, by decide +kernel, by decide +kernel⟩
theorem dn_X3_hut : DN yX3_hut 2 := ⟨by decide +kernel, by decide +kernel, by decide +kernel⟩
theorem dn_X3_hutAt : DN yX3_hutAt 2 := ⟨by decide +kernel, by decide +kernel, by decide +kernel⟩
theorem dn_X3_hutLine : DN yX3_hutLine 1 := ⟨by decide +kernel, by decide +kernel, by decide +kernel⟩
theorem dn_X3_hutOf : DN yX3_hutOf 2 := ⟨by decide +kernel, by decide +kernel, by decide +kernel⟩
theorem dn_X3_in : DN yX3_in 3 := ⟨by decide +kernel, by decide +kernel, by decide +kernel⟩
theorem dn_X3_init : DN yX3_init 0 := ⟨by decide +kernel, by decide +kernel, by decide +kernel⟩
theorem dn_X3_isAhead : DN yX3_isAhead 2 := ⟨by decide +kernel, by decide +kernel, by decide +kernel⟩
theorem dn_X3_isHut : DN yX3_isHut 1 := ⟨by decide +kernel, by decide +kernel, by decide +kernel⟩
theorem dn_X3_isPlace : DN yX3_isPlace 2 := ⟨by decide +kernel, by decide +kernel, by decide +kernel⟩
theorem dn_X3_isRight : DN yX3_isRight 0 := ⟨by decide +kernel, by decide +kernel, by decide +kernel⟩
theorem dn_X3_isSheep : DN yX3_isSheep 1 := ⟨by decide +kernel, by decide +kernel, by decide +kernel⟩
theorem dn_X3_isStill : DN yX3_isStill 0 := ⟨by decide +kernel, by decide +kernel, by decide +kernel⟩
theorem dn_X3_isStillNow : DN yX3_isStillNow 0 := ⟨by decide +kernel, by decide +kernel, by decide +kernel⟩
theorem dn_X3_isStray : DN yX3_isStray 1 := ⟨by decide +kernel, by decide +kernel, by decide +kernel⟩
theorem dn_X3_leave : DN yX3_leave 1 := ⟨by decide +kernel, by decide +kernel, by decide +kernel⟩
theorem dn_X3_line : DN yX3_line 0 := ⟨by decide +kernel, by decide +kernel, by decide +kernel⟩
theorem dn_X3_meanDistance : DN yX3_meanDistance 0 := ⟨by decide +kernel, by decide +kernel, by decide +kernel⟩
theorem dn_X3_middle : DN yX3_middle 2 := ⟨by decide +kernel, by decide +kernel, by decide +kernel⟩
theorem dn_X3_move : DN yX3_move 3 := ⟨by decide +kernel, by decide +kernel, by decide +kernel⟩
theorem dn_X3_moves : DN yX3_moves 3 := ⟨by decide +kernel, by decide +kernel, by decide +kernel⟩
theorem dn_X3_nearest : DN yX3_nearest 2 := ⟨by decide +kernel, by decide +kernel, by decide +kernel⟩
theorem dn_X3_nearestOf : DN yX3_nearestOf 1 := ⟨by decide +kernel, by decide +kernel, by decide +kernel⟩
theorem dn_X3_nearestTo : DN yX3_nearestTo 2 := ⟨by decide +kernel, by decide +kernel, by decide +kernel⟩
theorem dn_X3_number : DN yX3_number 1 := ⟨by decide +kernel, by decide +kernel, by decide +kernel⟩
theorem dn_X3_outlier : DN yX3_outlier 0 := ⟨by decide +kernel, by decide +kernel, by decide +kernel⟩
theorem dn_X3_ranked : DN yX3_ranked 1 := ⟨by decide +kernel, by decide +kernel, by decide +kernel⟩
theorem dn_X3_read : DN yX3_read 0 := ⟨by decide +kernel, by decide +kernel, by decide +kernel⟩
theorem dn_X3_readsOne : DN yX3_readsOne 0 := ⟨by decide +kernel, by decide +kernel, by decide +kernel⟩
theorem dn_X3_readsS : DN yX3_readsS 0 := ⟨by decide +kernel, by decide +kernel, by decide +kernel⟩
theorem dn_X3_refusal : DN yX3_refusal 1 := ⟨by decide +kernel, by decide +kernel, by decide +kernel⟩
theorem dn_X3_refused : DN yX3_refused 2 := ⟨by decide +kernel, by decide +kernel, by decide +kernel⟩
theorem dn_X3_refusedItem : DN yX3_refusedItem 0 := ⟨by decide +kernel, by decide +kernel, by decide +kernel⟩
theorem dn_X3_remembers : DN yX3_remembers 0 := ⟨by decide +kernel, by decide +kernel, by decide +kernel⟩
theorem dn_X3_restore : DN yX3_restore 0 := ⟨by decide +kernel, by decide +kernel, by decide +kernel⟩
theorem dn_X3_round : DN yX3_round 0 := ⟨by decide +kernel, by decide +kernel, by decide +kernel⟩
theorem dn_X3_rounds : DN yX3_rounds 0 := ⟨by decide +kernel, by decide +kernel, by decide +kernel⟩
theorem dn_X3_roundsToStill : DN yX3_roundsToStill 0 := ⟨by decide +kernel, by decide +kernel, by decide +kernel⟩
theorem dn_X3_says : DN yX3_says 2 := ⟨by decide +kernel, by decide +kernel, by decide +kernel⟩
theorem dn_X3_sends : DN yX3_sends 2 := ⟨by decide +kernel, by decide +kernel, by decide +kernel⟩
theorem dn_X3_sets : DN yX3_sets 2 := ⟨by decide +kernel, by decide +kernel, by decide +kernel⟩
theorem dn_X3_settle : DN yX3_settle 1 := ⟨by decide +kernel, by decide +kernel, by decide +kernel⟩
theorem dn_X3_settles : DN yX3_settles 1 := ⟨by decide +kernel, by decide +kernel, by decide +kernel⟩
theorem dn_X3_sheep : DN yX3_sheep 3 := ⟨by decide +kernel, by decide +kernel, by decide +kernel⟩
theorem dn_X3_sheepOf : DN yX3_sheepOf 2 := ⟨by decide +kernel, by decide +kernel, by decide +kernel⟩
theorem dn_X3_snapshot : DN yX3_snapshot 0 := ⟨by decide +kernel, by decide +kernel, by decide +kernel⟩
theorem dn_X3_spread : DN yX3_spread 1 := ⟨by decide +kernel, by decide +kernel, by decide +kernel⟩
theorem dn_X3_spreadAfter : DN yX3_spreadAfter 1 := ⟨by decide +kernel, by decide +kernel, by decide +kernel⟩
theorem dn_X3_spreadOf : DN yX3_spreadOf 1 := ⟨by decide +kernel, by decide +kernel, by decide +kernel⟩
theorem dn_X3_spreadWith : DN yX3_spreadWith 2 := ⟨by decide +kernel, by decide +kernel, by decide +kernel⟩
theorem dn_X3_spreads : DN yX3_spreads 0 := ⟨by decide +kernel, by decide +kernel, by decide +kernel⟩
theorem dn_X3_squared : DN yX3_squared 1 := ⟨by decide +kernel, by decide +kernel, by decide +kernel⟩
theorem dn_X3_stray : DN yX3_stray 1 := ⟨by decide +kernel, by decide +kernel, by decide +kernel⟩
theorem dn_X3_strayMany : DN yX3_strayMany 0 := ⟨by decide +kernel, by decide +kernel, by decide +kernel⟩
theorem dn_X3_strayShare : DN yX3_strayShare 0 := ⟨by decide +kernel, by decide +kernel, by decide +kernel⟩
theorem dn_X3_strays : DN yX3_strays 0 := ⟨by decide +kernel, by decide +kernel, by decide +kernel⟩
theorem dn_X3_strike : DN yX3_strike 1 := ⟨by decide +kernel, by decide +kernel, by decide +kernel⟩
theorem dn_X3_strikes : DN yX3_strikes 1 := ⟨by decide +kernel, by decide +kernel, by decide +kernel⟩
theorem dn_X3_thinks : DN yX3_thinks 0 := ⟨by decide +kernel, by decide +kernel, by decide +kernel⟩
theorem dn_X3_thrown : DN yX3_thrown 0 := ⟨by decide +kernel, by decide +kernel, by decide +kernel⟩
theorem dn_X3_undo : DN yX3_undo 0 := ⟨by decide +kernel, by decide +kernel, by decide +kernel⟩
theorem dn_X3_weigh : DN yX3_weigh 2 := ⟨by decide +kernel, by decide +kernel, by decide +kernel⟩
theorem dn_X3_weighs : DN yX3_weighs 2 := ⟨by decide +kernel, by decide +kernel, by decide +kernel⟩
theorem dn_X3_weights : DN yX3_weights 1 := ⟨by decide +kernel, by decide +kernel, by decide +kernel⟩
theorem dn_X3_writes : DN yX3_writes 1 := ⟨by decide +kernel, by decide +kernel, by decide +kernel⟩
theorem dn_X3_writesNumber : DN yX3_writesNumber 1 := ⟨by decide +kernel, by decide +kernel, by decide +kernel⟩
theorem dn_X4_copy : DN yX4_copy 0 := ⟨by decide +kernel, by decide +kernel, by decide +kernel⟩
theorem dn_X4_init : DN yX4_init 3 := ⟨by decide +kernel, by decide +kernel, by decide +kernel⟩
theorem dn_X4_x : DN yX4_x 0 := ⟨by decide +kernel, by decide +kernel, by decide +kernel⟩
theorem dn_X4_y : DN yX4_y 0 := ⟨by decide +kernel, by decide +kernel, by decide +kernel⟩
theorem dn_X5_go : DN yX5_go 1 := ⟨by decide +kernel, by decide +kernel, by decide +kernel⟩
theorem dn_X5_init : DN yX5_init 1 := ⟨by decide +kernel, by decide +kernel, by decide +kernel⟩
theorem dn_X5_x : DN yX5_x 0 := ⟨by decide +kernel, by decide +kernel, by decide +kernel⟩
theorem dn_X5_y : DN yX5_y 0 := ⟨by decide +kernel, by decide +kernel, by decide +kernel⟩
theorem dn_X6_begins : DN yX6_begins 1 := ⟨by decide +kernel, by decide +kernel, by decide +kernel⟩
theorem dn_X6_init : DN yX6_init 2 := ⟨by decide +kernel, by decide +kernel, by decide +kernel⟩
theorem dn_X6_make : DN yX6_make 1 := ⟨by decide +kernel, by decide +kernel, by decide +kernel⟩
theorem dn_X6_numbers : DN yX6_numbers 1 := ⟨by decide +kernel, by decide +kernel, by decide +kernel⟩
theorem dn_X7_check : DN yX7_check 3 := ⟨by decide +kernel, by decide +kernel, by decide +kernel⟩
theorem dn_X7_init : DN yX7_init 2 := ⟨by decide +kernel, by decide +kernel, by decide +kernel⟩
theorem dn_X8_at : DN yX8_at 2 := ⟨by decide +kernel, by decide +kernel, by decide +kernel⟩
theorem dn_X8_distance : DN yX8_distance 1 := ⟨by decide +kernel, by decide +kernel, by decide +kernel⟩
theorem dn_X8_isAt : DN yX8_isAt 1 := ⟨by decide +kernel, by decide +kernel, by decide +kernel⟩
theorem dn_X9_init : DN yX9_init 2 := ⟨by decide +kernel, by decide +kernel, by decide +kernel⟩
theorem dn_X9_x : DN yX9_x 0 := ⟨by decide +kernel, by decide +kernel, by decide +kernel⟩
theorem dn_X9_y : DN yX9_y 0 := ⟨by decide +kernel, by decide +kernel, by decide +kernel⟩
