/-! fields and classes (by gen.py) -/
set_option maxRecDepth 100000
theorem fd_0_0 : fk_Fd 0 0 "FigureKnee" "tape" "[B" (.array .byte) true := ⟨RX1, TX1, 20, tyX1, rfl, by decide, rfl, in_X1, tyX1_ok, nmX1, by decide +kernel⟩
theorem fd_0_1 : fk_Fd 0 1 "FigureKnee" "taped" "I" (.int) false := ⟨RX1, TX1, 20, tyX1, rfl, by decide, rfl, in_X1, tyX1_ok, nmX1, by decide +kernel⟩
theorem fd_0_2 : fk_Fd 0 2 "FigureKnee" "fault" "I" (.int) false := ⟨RX1, TX1, 20, tyX1, rfl, by decide, rfl, in_X1, tyX1_ok, nmX1, by decide +kernel⟩
theorem fd_0_3 : fk_Fd 0 3 "FigureKnee" "where" "I" (.int) false := ⟨RX1, TX1, 20, tyX1, rfl, by decide, rfl, in_X1, tyX1_ok, nmX1, by decide +kernel⟩
theorem fd_0_4 : fk_Fd 0 4 "FigureKnee" "trouble" "I" (.int) false := ⟨RX1, TX1, 20, tyX1, rfl, by decide, rfl, in_X1, tyX1_ok, nmX1, by decide +kernel⟩
theorem fd_0_5 : fk_Fd 0 5 "FigureKnee" "pier" "LFigureKnee$Pier;" (.object "FigureKnee$Pier") false := ⟨RX1, TX1, 20, tyX1, rfl, by decide, rfl, in_X1, tyX1_ok, nmX1, by decide +kernel⟩
theorem fd_0_6 : fk_Fd 0 6 "FigureKnee" "stage" "LFigureKnee$Stage;" (.object "FigureKnee$Stage") false := ⟨RX1, TX1, 20, tyX1, rfl, by decide, rfl, in_X1, tyX1_ok, nmX1, by decide +kernel⟩
theorem fd_0_7 : fk_Fd 0 7 "FigureKnee" "past" "Ljava/util/ArrayList;" (.object "java/util/ArrayList") true := ⟨RX1, TX1, 20, tyX1, rfl, by decide, rfl, in_X1, tyX1_ok, nmX1, by decide +kernel⟩
theorem fd_0_8 : fk_Fd 0 8 "FigureKnee" "images" "Ljava/util/ArrayList;" (.object "java/util/ArrayList") true := ⟨RX1, TX1, 20, tyX1, rfl, by decide, rfl, in_X1, tyX1_ok, nmX1, by decide +kernel⟩
theorem fd_0_9 : fk_Fd 0 9 "FigureKnee" "tale" "[S" (.array .short) true := ⟨RX1, TX1, 20, tyX1, rfl, by decide, rfl, in_X1, tyX1_ok, nmX1, by decide +kernel⟩
theorem fd_0_10 : fk_Fd 0 10 "FigureKnee" "roundFrom" "I" (.int) false := ⟨RX1, TX1, 20, tyX1, rfl, by decide, rfl, in_X1, tyX1_ok, nmX1, by decide +kernel⟩
theorem fd_0_11 : fk_Fd 0 11 "FigureKnee" "roundLong" "I" (.int) false := ⟨RX1, TX1, 20, tyX1, rfl, by decide, rfl, in_X1, tyX1_ok, nmX1, by decide +kernel⟩
theorem fd_0_12 : fk_Fd 0 12 "FigureKnee" "everyBest" "I" (.int) false := ⟨RX1, TX1, 20, tyX1, rfl, by decide, rfl, in_X1, tyX1_ok, nmX1, by decide +kernel⟩
theorem fd_0_13 : fk_Fd 0 13 "FigureKnee" "fitsNow" "I" (.int) false := ⟨RX1, TX1, 20, tyX1, rfl, by decide, rfl, in_X1, tyX1_ok, nmX1, by decide +kernel⟩
theorem fd_0_14 : fk_Fd 0 14 "FigureKnee" "someNow" "I" (.int) false := ⟨RX1, TX1, 20, tyX1, rfl, by decide, rfl, in_X1, tyX1_ok, nmX1, by decide +kernel⟩
theorem fd_0_15 : fk_Fd 0 15 "FigureKnee" "everyNow" "I" (.int) false := ⟨RX1, TX1, 20, tyX1, rfl, by decide, rfl, in_X1, tyX1_ok, nmX1, by decide +kernel⟩
theorem fd_0_16 : fk_Fd 0 16 "FigureKnee" "otherIn" "[I" (.array .int) true := ⟨RX1, TX1, 20, tyX1, rfl, by decide, rfl, in_X1, tyX1_ok, nmX1, by decide +kernel⟩
theorem fd_0_17 : fk_Fd 0 17 "FigureKnee" "askLeft" "I" (.int) false := ⟨RX1, TX1, 20, tyX1, rfl, by decide, rfl, in_X1, tyX1_ok, nmX1, by decide +kernel⟩
theorem fd_0_18 : fk_Fd 0 18 "FigureKnee" "quits" "[I" (.array .int) true := ⟨RX1, TX1, 20, tyX1, rfl, by decide, rfl, in_X1, tyX1_ok, nmX1, by decide +kernel⟩
theorem fd_0_19 : fk_Fd 0 19 "FigureKnee" "looked" "[I" (.array .int) true := ⟨RX1, TX1, 20, tyX1, rfl, by decide, rfl, in_X1, tyX1_ok, nmX1, by decide +kernel⟩
theorem cl_0 : fk_Cl 0 "FigureKnee" 20 tyX1 := ⟨TX1, rfl, in_X1, tyX1_ok, q156, q122, by decide⟩
theorem fd_1_0 : fk_Fd 1 0 "FigureKneeModel" "thrown" "I" (.int) false := ⟨RX2, TX2, 42, tyX2, rfl, by decide, rfl, in_X2, tyX2_ok, nmX2, by decide +kernel⟩
theorem fd_1_1 : fk_Fd 1 1 "FigureKneeModel" "tape" "[I" (.array .int) true := ⟨RX2, TX2, 42, tyX2, rfl, by decide, rfl, in_X2, tyX2_ok, nmX2, by decide +kernel⟩
theorem fd_1_2 : fk_Fd 1 2 "FigureKneeModel" "taped" "I" (.int) false := ⟨RX2, TX2, 42, tyX2, rfl, by decide, rfl, in_X2, tyX2_ok, nmX2, by decide +kernel⟩
theorem fd_1_3 : fk_Fd 1 3 "FigureKneeModel" "size" "I" (.int) false := ⟨RX2, TX2, 42, tyX2, rfl, by decide, rfl, in_X2, tyX2_ok, nmX2, by decide +kernel⟩
theorem fd_1_4 : fk_Fd 1 4 "FigureKneeModel" "at" "I" (.int) false := ⟨RX2, TX2, 42, tyX2, rfl, by decide, rfl, in_X2, tyX2_ok, nmX2, by decide +kernel⟩
theorem fd_1_5 : fk_Fd 1 5 "FigureKneeModel" "end" "I" (.int) false := ⟨RX2, TX2, 42, tyX2, rfl, by decide, rfl, in_X2, tyX2_ok, nmX2, by decide +kernel⟩
theorem fd_1_6 : fk_Fd 1 6 "FigureKneeModel" "token" "I" (.int) false := ⟨RX2, TX2, 42, tyX2, rfl, by decide, rfl, in_X2, tyX2_ok, nmX2, by decide +kernel⟩
theorem fd_1_7 : fk_Fd 1 7 "FigureKneeModel" "whole" "I" (.int) false := ⟨RX2, TX2, 42, tyX2, rfl, by decide, rfl, in_X2, tyX2_ok, nmX2, by decide +kernel⟩
theorem fd_1_8 : fk_Fd 1 8 "FigureKneeModel" "nameSize" "I" (.int) false := ⟨RX2, TX2, 42, tyX2, rfl, by decide, rfl, in_X2, tyX2_ok, nmX2, by decide +kernel⟩
theorem fd_1_9 : fk_Fd 1 9 "FigureKneeModel" "fault" "I" (.int) false := ⟨RX2, TX2, 42, tyX2, rfl, by decide, rfl, in_X2, tyX2_ok, nmX2, by decide +kernel⟩
theorem fd_1_10 : fk_Fd 1 10 "FigureKneeModel" "place" "I" (.int) false := ⟨RX2, TX2, 42, tyX2, rfl, by decide, rfl, in_X2, tyX2_ok, nmX2, by decide +kernel⟩
theorem fd_1_11 : fk_Fd 1 11 "FigureKneeModel" "trouble" "I" (.int) false := ⟨RX2, TX2, 42, tyX2, rfl, by decide, rfl, in_X2, tyX2_ok, nmX2, by decide +kernel⟩
theorem fd_1_12 : fk_Fd 1 12 "FigureKneeModel" "letters" "[I" (.array .int) true := ⟨RX2, TX2, 42, tyX2, rfl, by decide, rfl, in_X2, tyX2_ok, nmX2, by decide +kernel⟩
theorem fd_1_13 : fk_Fd 1 13 "FigureKneeModel" "failed" "Z" (.boolean) false := ⟨RX2, TX2, 42, tyX2, rfl, by decide, rfl, in_X2, tyX2_ok, nmX2, by decide +kernel⟩
theorem fd_1_14 : fk_Fd 1 14 "FigureKneeModel" "hasPier" "Z" (.boolean) false := ⟨RX2, TX2, 42, tyX2, rfl, by decide, rfl, in_X2, tyX2_ok, nmX2, by decide +kernel⟩
theorem fd_1_15 : fk_Fd 1 15 "FigureKneeModel" "\x72" "[I" (.array .int) true := ⟨RX2, TX2, 42, tyX2, rfl, by decide, rfl, in_X2, tyX2_ok, nmX2, by decide +kernel⟩
theorem fd_1_16 : fk_Fd 1 16 "FigureKneeModel" "fresh" "[I" (.array .int) true := ⟨RX2, TX2, 42, tyX2, rfl, by decide, rfl, in_X2, tyX2_ok, nmX2, by decide +kernel⟩
theorem fd_1_17 : fk_Fd 1 17 "FigureKneeModel" "told" "[I" (.array .int) true := ⟨RX2, TX2, 42, tyX2, rfl, by decide, rfl, in_X2, tyX2_ok, nmX2, by decide +kernel⟩
theorem fd_1_18 : fk_Fd 1 18 "FigureKneeModel" "read" "[I" (.array .int) true := ⟨RX2, TX2, 42, tyX2, rfl, by decide, rfl, in_X2, tyX2_ok, nmX2, by decide +kernel⟩
theorem fd_1_19 : fk_Fd 1 19 "FigureKneeModel" "st" "[I" (.array .int) true := ⟨RX2, TX2, 42, tyX2, rfl, by decide, rfl, in_X2, tyX2_ok, nmX2, by decide +kernel⟩
theorem fd_1_20 : fk_Fd 1 20 "FigureKneeModel" "undone" "[I" (.array .int) true := ⟨RX2, TX2, 42, tyX2, rfl, by decide, rfl, in_X2, tyX2_ok, nmX2, by decide +kernel⟩
theorem fd_1_21 : fk_Fd 1 21 "FigureKneeModel" "kept" "[I" (.array .int) true := ⟨RX2, TX2, 42, tyX2, rfl, by decide, rfl, in_X2, tyX2_ok, nmX2, by decide +kernel⟩
theorem fd_1_22 : fk_Fd 1 22 "FigureKneeModel" "undos" "I" (.int) false := ⟨RX2, TX2, 42, tyX2, rfl, by decide, rfl, in_X2, tyX2_ok, nmX2, by decide +kernel⟩
theorem fd_1_23 : fk_Fd 1 23 "FigureKneeModel" "images" "I" (.int) false := ⟨RX2, TX2, 42, tyX2, rfl, by decide, rfl, in_X2, tyX2_ok, nmX2, by decide +kernel⟩
theorem fd_1_24 : fk_Fd 1 24 "FigureKneeModel" "said" "[I" (.array .int) true := ⟨RX2, TX2, 42, tyX2, rfl, by decide, rfl, in_X2, tyX2_ok, nmX2, by decide +kernel⟩
theorem fd_1_25 : fk_Fd 1 25 "FigureKneeModel" "metAt" "[I" (.array .int) true := ⟨RX2, TX2, 42, tyX2, rfl, by decide, rfl, in_X2, tyX2_ok, nmX2, by decide +kernel⟩
theorem fd_1_26 : fk_Fd 1 26 "FigureKneeModel" "stateFrom" "I" (.int) false := ⟨RX2, TX2, 42, tyX2, rfl, by decide, rfl, in_X2, tyX2_ok, nmX2, by decide +kernel⟩
theorem fd_1_27 : fk_Fd 1 27 "FigureKneeModel" "stateRound" "I" (.int) false := ⟨RX2, TX2, 42, tyX2, rfl, by decide, rfl, in_X2, tyX2_ok, nmX2, by decide +kernel⟩
theorem fd_1_28 : fk_Fd 1 28 "FigureKneeModel" "from" "I" (.int) false := ⟨RX2, TX2, 42, tyX2, rfl, by decide, rfl, in_X2, tyX2_ok, nmX2, by decide +kernel⟩
theorem fd_1_29 : fk_Fd 1 29 "FigureKneeModel" "roundLong" "I" (.int) false := ⟨RX2, TX2, 42, tyX2, rfl, by decide, rfl, in_X2, tyX2_ok, nmX2, by decide +kernel⟩
theorem fd_1_30 : fk_Fd 1 30 "FigureKneeModel" "often" "[I" (.array .int) true := ⟨RX2, TX2, 42, tyX2, rfl, by decide, rfl, in_X2, tyX2_ok, nmX2, by decide +kernel⟩
theorem fd_1_31 : fk_Fd 1 31 "FigureKneeModel" "setMany" "I" (.int) false := ⟨RX2, TX2, 42, tyX2, rfl, by decide, rfl, in_X2, tyX2_ok, nmX2, by decide +kernel⟩
theorem fd_1_32 : fk_Fd 1 32 "FigureKneeModel" "someOf" "I" (.int) false := ⟨RX2, TX2, 42, tyX2, rfl, by decide, rfl, in_X2, tyX2_ok, nmX2, by decide +kernel⟩
theorem fd_1_33 : fk_Fd 1 33 "FigureKneeModel" "allOf" "I" (.int) false := ⟨RX2, TX2, 42, tyX2, rfl, by decide, rfl, in_X2, tyX2_ok, nmX2, by decide +kernel⟩
theorem fd_1_34 : fk_Fd 1 34 "FigureKneeModel" "way" "[I" (.array .int) true := ⟨RX2, TX2, 42, tyX2, rfl, by decide, rfl, in_X2, tyX2_ok, nmX2, by decide +kernel⟩
theorem fd_1_35 : fk_Fd 1 35 "FigureKneeModel" "ring" "[I" (.array .int) true := ⟨RX2, TX2, 42, tyX2, rfl, by decide, rfl, in_X2, tyX2_ok, nmX2, by decide +kernel⟩
theorem fd_1_36 : fk_Fd 1 36 "FigureKneeModel" "ringMany" "I" (.int) false := ⟨RX2, TX2, 42, tyX2, rfl, by decide, rfl, in_X2, tyX2_ok, nmX2, by decide +kernel⟩
theorem fd_1_37 : fk_Fd 1 37 "FigureKneeModel" "firstRest" "I" (.int) false := ⟨RX2, TX2, 42, tyX2, rfl, by decide, rfl, in_X2, tyX2_ok, nmX2, by decide +kernel⟩
theorem fd_1_38 : fk_Fd 1 38 "FigureKneeModel" "looked" "[I" (.array .int) true := ⟨RX2, TX2, 42, tyX2, rfl, by decide, rfl, in_X2, tyX2_ok, nmX2, by decide +kernel⟩
theorem fd_1_39 : fk_Fd 1 39 "FigureKneeModel" "allWeight" "J" (.long) false := ⟨RX2, TX2, 42, tyX2, rfl, by decide, rfl, in_X2, tyX2_ok, nmX2, by decide +kernel⟩
theorem fd_1_40 : fk_Fd 1 40 "FigureKneeModel" "moreWeight" "J" (.long) false := ⟨RX2, TX2, 42, tyX2, rfl, by decide, rfl, in_X2, tyX2_ok, nmX2, by decide +kernel⟩
theorem fd_1_41 : fk_Fd 1 41 "FigureKneeModel" "saidSum" "J" (.long) false := ⟨RX2, TX2, 42, tyX2, rfl, by decide, rfl, in_X2, tyX2_ok, nmX2, by decide +kernel⟩
theorem cl_1 : fk_Cl 1 "FigureKneeModel" 42 tyX2 := ⟨TX2, rfl, in_X2, tyX2_ok, q1521, q126, by decide⟩
theorem fd_2_0 : fk_Fd 2 0 "FigureKnee$Reader" "tokens" "LFigureKnee$Tokens;" (.object "FigureKnee$Tokens") true := ⟨RX3, TX3, 5, tyX3, rfl, by decide, rfl, in_X3, tyX3_ok, nmX3, by decide +kernel⟩
theorem fd_2_1 : fk_Fd 2 1 "FigureKnee$Reader" "pier" "LFigureKnee$Pier;" (.object "FigureKnee$Pier") true := ⟨RX3, TX3, 5, tyX3, rfl, by decide, rfl, in_X3, tyX3_ok, nmX3, by decide +kernel⟩
theorem fd_2_2 : fk_Fd 2 2 "FigureKnee$Reader" "now" "LFigureKnee$Token;" (.object "FigureKnee$Token") false := ⟨RX3, TX3, 5, tyX3, rfl, by decide, rfl, in_X3, tyX3_ok, nmX3, by decide +kernel⟩
theorem fd_2_3 : fk_Fd 2 3 "FigureKnee$Reader" "fault" "I" (.int) false := ⟨RX3, TX3, 5, tyX3, rfl, by decide, rfl, in_X3, tyX3_ok, nmX3, by decide +kernel⟩
theorem fd_2_4 : fk_Fd 2 4 "FigureKnee$Reader" "place" "I" (.int) false := ⟨RX3, TX3, 5, tyX3, rfl, by decide, rfl, in_X3, tyX3_ok, nmX3, by decide +kernel⟩
theorem cl_2 : fk_Cl 2 "FigureKnee$Reader" 5 tyX3 := ⟨TX3, rfl, in_X3, tyX3_ok, q269, q127, by decide⟩
theorem fd_3_0 : fk_Fd 3 0 "FigureKnee$Tokens" "text" "[B" (.array .byte) true := ⟨RX4, TX4, 3, tyX4, rfl, by decide, rfl, in_X4, tyX4_ok, nmX4, by decide +kernel⟩
theorem fd_3_1 : fk_Fd 3 1 "FigureKnee$Tokens" "size" "I" (.int) true := ⟨RX4, TX4, 3, tyX4, rfl, by decide, rfl, in_X4, tyX4_ok, nmX4, by decide +kernel⟩
theorem fd_3_2 : fk_Fd 3 2 "FigureKnee$Tokens" "at" "I" (.int) false := ⟨RX4, TX4, 3, tyX4, rfl, by decide, rfl, in_X4, tyX4_ok, nmX4, by decide +kernel⟩
theorem cl_3 : fk_Cl 3 "FigureKnee$Tokens" 3 tyX4 := ⟨TX4, rfl, in_X4, tyX4_ok, q271, q128, by decide⟩
theorem fd_4_0 : fk_Fd 4 0 "FigureKnee$Pier" "words" "I" (.int) false := ⟨RX5, TX5, 8, tyX5, rfl, by decide, rfl, in_X5, tyX5_ok, nmX5, by decide +kernel⟩
theorem fd_4_1 : fk_Fd 4 1 "FigureKnee$Pier" "dumb" "I" (.int) false := ⟨RX5, TX5, 8, tyX5, rfl, by decide, rfl, in_X5, tyX5_ok, nmX5, by decide +kernel⟩
theorem fd_4_2 : fk_Fd 4 2 "FigureKnee$Pier" "contracts" "I" (.int) false := ⟨RX5, TX5, 8, tyX5, rfl, by decide, rfl, in_X5, tyX5_ok, nmX5, by decide +kernel⟩
theorem fd_4_3 : fk_Fd 4 3 "FigureKnee$Pier" "unsures" "I" (.int) false := ⟨RX5, TX5, 8, tyX5, rfl, by decide, rfl, in_X5, tyX5_ok, nmX5, by decide +kernel⟩
theorem fd_4_4 : fk_Fd 4 4 "FigureKnee$Pier" "pairs" "Ljava/util/ArrayList;" (.object "java/util/ArrayList") true := ⟨RX5, TX5, 8, tyX5, rfl, by decide, rfl, in_X5, tyX5_ok, nmX5, by decide +kernel⟩
theorem fd_4_5 : fk_Fd 4 5 "FigureKnee$Pier" "debts" "Ljava/util/ArrayList;" (.object "java/util/ArrayList") true := ⟨RX5, TX5, 8, tyX5, rfl, by decide, rfl, in_X5, tyX5_ok, nmX5, by decide +kernel⟩
theorem fd_4_6 : fk_Fd 4 6 "FigureKnee$Pier" "heard" "Ljava/util/ArrayList;" (.object "java/util/ArrayList") true := ⟨RX5, TX5, 8, tyX5, rfl, by decide, rfl, in_X5, tyX5_ok, nmX5, by decide +kernel⟩
theorem fd_4_7 : fk_Fd 4 7 "FigureKnee$Pier" "unsure" "[I" (.array .int) true := ⟨RX5, TX5, 8, tyX5, rfl, by decide, rfl, in_X5, tyX5_ok, nmX5, by decide +kernel⟩
theorem cl_4 : fk_Cl 4 "FigureKnee$Pier" 8 tyX5 := ⟨TX5, rfl, in_X5, tyX5_ok, q291, q129, by decide⟩
theorem fd_5_0 : fk_Fd 5 0 "FigureKnee$Token" "sort" "I" (.int) true := ⟨RX6, TX6, 4, tyX6, rfl, by decide, rfl, in_X6, tyX6_ok, nmX6, by decide +kernel⟩
theorem fd_5_1 : fk_Fd 5 1 "FigureKnee$Token" "place" "I" (.int) true := ⟨RX6, TX6, 4, tyX6, rfl, by decide, rfl, in_X6, tyX6_ok, nmX6, by decide +kernel⟩
theorem fd_5_2 : fk_Fd 5 2 "FigureKnee$Token" "number" "I" (.int) true := ⟨RX6, TX6, 4, tyX6, rfl, by decide, rfl, in_X6, tyX6_ok, nmX6, by decide +kernel⟩
theorem fd_5_3 : fk_Fd 5 3 "FigureKnee$Token" "word" "Ljava/lang/String;" (.object "java/lang/String") true := ⟨RX6, TX6, 4, tyX6, rfl, by decide, rfl, in_X6, tyX6_ok, nmX6, by decide +kernel⟩
theorem cl_5 : fk_Cl 5 "FigureKnee$Token" 4 tyX6 := ⟨TX6, rfl, in_X6, tyX6_ok, q347, q130, by decide⟩
theorem fd_6_0 : fk_Fd 6 0 "FigureKnee$Pair" "name" "Ljava/lang/String;" (.object "java/lang/String") true := ⟨RX7, TX7, 7, tyX7, rfl, by decide, rfl, in_X7, tyX7_ok, nmX7, by decide +kernel⟩
theorem fd_6_1 : fk_Fd 6 1 "FigureKnee$Pair" "law" "LFigureKnee$Law;" (.object "FigureKnee$Law") false := ⟨RX7, TX7, 7, tyX7, rfl, by decide, rfl, in_X7, tyX7_ok, nmX7, by decide +kernel⟩
theorem fd_6_2 : fk_Fd 6 2 "FigureKnee$Pair" "said" "I" (.int) false := ⟨RX7, TX7, 7, tyX7, rfl, by decide, rfl, in_X7, tyX7_ok, nmX7, by decide +kernel⟩
theorem fd_6_3 : fk_Fd 6 3 "FigureKnee$Pair" "step" "I" (.int) false := ⟨RX7, TX7, 7, tyX7, rfl, by decide, rfl, in_X7, tyX7_ok, nmX7, by decide +kernel⟩
theorem fd_6_4 : fk_Fd 6 4 "FigureKnee$Pair" "every" "I" (.int) false := ⟨RX7, TX7, 7, tyX7, rfl, by decide, rfl, in_X7, tyX7_ok, nmX7, by decide +kernel⟩
theorem fd_6_5 : fk_Fd 6 5 "FigureKnee$Pair" "other" "I" (.int) false := ⟨RX7, TX7, 7, tyX7, rfl, by decide, rfl, in_X7, tyX7_ok, nmX7, by decide +kernel⟩
theorem fd_6_6 : fk_Fd 6 6 "FigureKnee$Pair" "unsure" "Z" (.boolean) false := ⟨RX7, TX7, 7, tyX7, rfl, by decide, rfl, in_X7, tyX7_ok, nmX7, by decide +kernel⟩
theorem cl_6 : fk_Cl 6 "FigureKnee$Pair" 7 tyX7 := ⟨TX7, rfl, in_X7, tyX7_ok, q737, q142, by decide⟩
theorem fd_7_0 : fk_Fd 7 0 "FigureKnee$Law" "number" "I" (.int) true := ⟨RX9, TX9, 1, tyX9, rfl, by decide, rfl, in_X9, tyX9_ok, nmX9, by decide +kernel⟩
theorem cl_7 : fk_Cl 7 "FigureKnee$Creeping" 1 tyX9 := ⟨TX9, rfl, in_X9, tyX9_ok, q781, q144, by decide⟩
theorem fd_8_0 : fk_Fd 8 0 "FigureKnee$Law" "number" "I" (.int) true := ⟨RX10, TX10, 1, tyX10, rfl, by decide, rfl, in_X10, tyX10_ok, nmX10, by decide +kernel⟩
theorem cl_8 : fk_Cl 8 "FigureKnee$Leaping" 1 tyX10 := ⟨TX10, rfl, in_X10, tyX10_ok, q795, q145, by decide⟩
theorem fd_9_0 : fk_Fd 9 0 "FigureKnee$Law" "number" "I" (.int) true := ⟨RX11, TX11, 1, tyX11, rfl, by decide, rfl, in_X11, tyX11_ok, nmX11, by decide +kernel⟩
theorem cl_9 : fk_Cl 9 "FigureKnee$Fading" 1 tyX11 := ⟨TX11, rfl, in_X11, tyX11_ok, q803, q146, by decide⟩
theorem fd_10_0 : fk_Fd 10 0 "FigureKnee$Law" "number" "I" (.int) true := ⟨RX12, TX12, 1, tyX12, rfl, by decide, rfl, in_X12, tyX12_ok, nmX12, by decide +kernel⟩
theorem cl_10 : fk_Cl 10 "FigureKnee$Swinging" 1 tyX12 := ⟨TX12, rfl, in_X12, tyX12_ok, q811, q147, by decide⟩
theorem fd_11_0 : fk_Fd 11 0 "FigureKnee$Debt" "from" "I" (.int) true := ⟨RX13, TX13, 3, tyX13, rfl, by decide, rfl, in_X13, tyX13_ok, nmX13, by decide +kernel⟩
theorem fd_11_1 : fk_Fd 11 1 "FigureKnee$Debt" "to" "I" (.int) true := ⟨RX13, TX13, 3, tyX13, rfl, by decide, rfl, in_X13, tyX13_ok, nmX13, by decide +kernel⟩
theorem fd_11_2 : fk_Fd 11 2 "FigureKnee$Debt" "much" "I" (.int) true := ⟨RX13, TX13, 3, tyX13, rfl, by decide, rfl, in_X13, tyX13_ok, nmX13, by decide +kernel⟩
theorem cl_11 : fk_Cl 11 "FigureKnee$Debt" 3 tyX13 := ⟨TX13, rfl, in_X13, tyX13_ok, q895, q148, by decide⟩
theorem fd_12_0 : fk_Fd 12 0 "FigureKnee$Heard" "pair" "I" (.int) true := ⟨RX14, TX14, 3, tyX14, rfl, by decide, rfl, in_X14, tyX14_ok, nmX14, by decide +kernel⟩
theorem fd_12_1 : fk_Fd 12 1 "FigureKnee$Heard" "season" "I" (.int) true := ⟨RX14, TX14, 3, tyX14, rfl, by decide, rfl, in_X14, tyX14_ok, nmX14, by decide +kernel⟩
theorem fd_12_2 : fk_Fd 12 2 "FigureKnee$Heard" "said" "I" (.int) true := ⟨RX14, TX14, 3, tyX14, rfl, by decide, rfl, in_X14, tyX14_ok, nmX14, by decide +kernel⟩
theorem cl_12 : fk_Cl 12 "FigureKnee$Heard" 3 tyX14 := ⟨TX14, rfl, in_X14, tyX14_ok, q930, q149, by decide⟩
theorem fd_13_0 : fk_Fd 13 0 "FigureKnee$Stage" "pier" "LFigureKnee$Pier;" (.object "FigureKnee$Pier") true := ⟨RX15, TX15, 5, tyX15, rfl, by decide, rfl, in_X15, tyX15_ok, nmX15, by decide +kernel⟩
theorem fd_13_1 : fk_Fd 13 1 "FigureKnee$Stage" "said" "[B" (.array .byte) true := ⟨RX15, TX15, 5, tyX15, rfl, by decide, rfl, in_X15, tyX15_ok, nmX15, by decide +kernel⟩
theorem fd_13_2 : fk_Fd 13 2 "FigureKnee$Stage" "step" "[B" (.array .byte) true := ⟨RX15, TX15, 5, tyX15, rfl, by decide, rfl, in_X15, tyX15_ok, nmX15, by decide +kernel⟩
theorem fd_13_3 : fk_Fd 13 3 "FigureKnee$Stage" "owes" "[S" (.array .short) true := ⟨RX15, TX15, 5, tyX15, rfl, by decide, rfl, in_X15, tyX15_ok, nmX15, by decide +kernel⟩
theorem fd_13_4 : fk_Fd 13 4 "FigureKnee$Stage" "gone" "I" (.int) false := ⟨RX15, TX15, 5, tyX15, rfl, by decide, rfl, in_X15, tyX15_ok, nmX15, by decide +kernel⟩
theorem cl_13 : fk_Cl 13 "FigureKnee$Stage" 5 tyX15 := ⟨TX15, rfl, in_X15, tyX15_ok, q959, q150, by decide⟩
theorem fd_14_0 : fk_Fd 14 0 "java/util/AbstractList" "modCount" "I" (.int) false := ⟨RJ2, TJ2, 3, tyJ2, rfl, by decide, rfl, in_J2, tyJ2_ok, nmJ2, by decide +kernel⟩
theorem fd_14_1 : fk_Fd 14 1 "java/util/ArrayList" "elementData" "[Ljava/lang/Object;" (.array (.object "java/lang/Object")) false := ⟨RJ2, TJ2, 3, tyJ2, rfl, by decide, rfl, in_J2, tyJ2_ok, nmJ2, by decide +kernel⟩
theorem fd_14_2 : fk_Fd 14 2 "java/util/ArrayList" "size" "I" (.int) false := ⟨RJ2, TJ2, 3, tyJ2, rfl, by decide, rfl, in_J2, tyJ2_ok, nmJ2, by decide +kernel⟩
theorem cl_14 : fk_Cl 14 "java/util/ArrayList" 3 tyJ2 := ⟨TJ2, rfl, in_J2, tyJ2_ok, q164, q125, by decide⟩
theorem fd_15_0 : fk_Fd 15 0 "java/lang/AbstractStringBuilder" "value" "[B" (.array .byte) false := ⟨RJ4, TJ4, 4, tyJ4, rfl, by decide, rfl, in_J4, tyJ4_ok, nmJ4, by decide +kernel⟩
theorem fd_15_1 : fk_Fd 15 1 "java/lang/AbstractStringBuilder" "coder" "B" (.byte) false := ⟨RJ4, TJ4, 4, tyJ4, rfl, by decide, rfl, in_J4, tyJ4_ok, nmJ4, by decide +kernel⟩
theorem fd_15_2 : fk_Fd 15 2 "java/lang/AbstractStringBuilder" "maybeLatin1" "Z" (.boolean) false := ⟨RJ4, TJ4, 4, tyJ4, rfl, by decide, rfl, in_J4, tyJ4_ok, nmJ4, by decide +kernel⟩
theorem fd_15_3 : fk_Fd 15 3 "java/lang/AbstractStringBuilder" "count" "I" (.int) false := ⟨RJ4, TJ4, 4, tyJ4, rfl, by decide, rfl, in_J4, tyJ4_ok, nmJ4, by decide +kernel⟩
theorem cl_15 : fk_Cl 15 "java/lang/StringBuilder" 4 tyJ4 := ⟨TJ4, rfl, in_J4, tyJ4_ok, q372, q132, by decide⟩
theorem fd_16_0 : fk_Fd 16 0 "java/lang/String" "value" "[B" (.array .byte) true := ⟨RJ5, TJ5, 4, tyJ5, rfl, by decide, rfl, in_J5, tyJ5_ok, nmJ5, by decide +kernel⟩
theorem fd_16_1 : fk_Fd 16 1 "java/lang/String" "coder" "B" (.byte) true := ⟨RJ5, TJ5, 4, tyJ5, rfl, by decide, rfl, in_J5, tyJ5_ok, nmJ5, by decide +kernel⟩
theorem fd_16_2 : fk_Fd 16 2 "java/lang/String" "hash" "I" (.int) false := ⟨RJ5, TJ5, 4, tyJ5, rfl, by decide, rfl, in_J5, tyJ5_ok, nmJ5, by decide +kernel⟩
theorem fd_16_3 : fk_Fd 16 3 "java/lang/String" "hashIsZero" "Z" (.boolean) false := ⟨RJ5, TJ5, 4, tyJ5, rfl, by decide, rfl, in_J5, tyJ5_ok, nmJ5, by decide +kernel⟩
theorem cl_16 : fk_Cl 16 "java/lang/String" 4 tyJ5 := ⟨TJ5, rfl, in_J5, tyJ5_ok, q502, q133, by decide⟩
theorem fd_17_0 : fk_Fd 17 0 "java/lang/Throwable" "cause" "Ljava/lang/Throwable;" (.object "java/lang/Throwable") false := ⟨RJ16, TJ16, 6, tyJ16, rfl, by decide, rfl, in_J16, tyJ16_ok, nmJ16, by decide +kernel⟩
theorem fd_17_1 : fk_Fd 17 1 "java/lang/Throwable" "stackTrace" "[Ljava/lang/StackTraceElement;" (.array (.object "java/lang/StackTraceElement")) false := ⟨RJ16, TJ16, 6, tyJ16, rfl, by decide, rfl, in_J16, tyJ16_ok, nmJ16, by decide +kernel⟩
theorem fd_17_2 : fk_Fd 17 2 "java/lang/Throwable" "suppressedExceptions" "Ljava/util/List;" (.object "java/util/List") false := ⟨RJ16, TJ16, 6, tyJ16, rfl, by decide, rfl, in_J16, tyJ16_ok, nmJ16, by decide +kernel⟩
theorem fd_17_3 : fk_Fd 17 3 "java/lang/Throwable" "detailMessage" "Ljava/lang/String;" (.object "java/lang/String") false := ⟨RJ16, TJ16, 6, tyJ16, rfl, by decide, rfl, in_J16, tyJ16_ok, nmJ16, by decide +kernel⟩
theorem fd_17_4 : fk_Fd 17 4 "java/lang/Throwable" "backtrace" "Ljava/lang/Object;" (.object "java/lang/Object") false := ⟨RJ16, TJ16, 6, tyJ16, rfl, by decide, rfl, in_J16, tyJ16_ok, nmJ16, by decide +kernel⟩
theorem fd_17_5 : fk_Fd 17 5 "java/lang/Throwable" "depth" "I" (.int) false := ⟨RJ16, TJ16, 6, tyJ16, rfl, by decide, rfl, in_J16, tyJ16_ok, nmJ16, by decide +kernel⟩
theorem cl_17 : fk_Cl 17 "java/util/NoSuchElementException" 6 tyJ16 := ⟨TJ16, rfl, in_J16, tyJ16_ok, q1460, q154, by decide⟩

theorem fit_C {x : Int32} (h : i_c x = x) : narrow .char (.int x) = .int x := by
  have h2 := pk_nc x
  rw [show (x.toUInt32 % 65536).toInt32 = x from h] at h2
  exact h2
/-- the number of a law -/
def gNum (mp : fk_M) (q : Option Nat) : Option Int32 := if isO mp q 7 = some () then gI mp q 7 0 else if isO mp q 8 = some () then gI mp q 8 0 else if isO mp q 9 = some () then gI mp q 9 0 else if isO mp q 10 = some () then gI mp q 10 0 else none
def pNum (mp : fk_M) (q : Option Nat) (x : Int32) : Option fk_M := if isO mp q 7 = some () then pV mp q 7 0 (tI x) else if isO mp q 8 = some () then pV mp q 8 0 (tI x) else if isO mp q 9 = some () then pV mp q 9 0 (tI x) else if isO mp q 10 = some () then pV mp q 10 0 (tI x) else none
section FKL
variable {E : fk_E} {l0 : Launch} {G0 : fk_G} {b00 : Nat} {own mn : String} {cc : ByteArray} {nL fr lo rc rs n cs sl pc : Nat} {mp : fk_M} {lv : List (Nat × fk_T)} {st : List fk_T}
theorem fk_getNum' (X : fk_X E l0 G0 b00 "FigureKnee" mn cc nL fr lo rc rs) {q : Option Nat} {ρ : Type} {z : ρ} (d : decode cc pc = .ok (.getfield 166, 3)) {f : Int32 → Option ρ} (hf : (gNum mp q).bind f = some z) (kk : ∀ x : Int32, f x = some z → fk_W E nL n mp cs sl (pc + 3) lv (tI x :: st)) : fk_W E nL n mp cs sl pc lv (tR q :: st) := by
  obtain ⟨x, h1, h2⟩ := bI hf
  unfold gNum at h1
  split at h1
  · exact fk_getN X fd_7_0 (host := "FigureKnee") (by decide) d h1 (kk x h2)
  · split at h1
    · exact fk_getN X fd_8_0 (host := "FigureKnee") (by decide) d h1 (kk x h2)
    · split at h1
      · exact fk_getN X fd_9_0 (host := "FigureKnee") (by decide) d h1 (kk x h2)
      · split at h1
        · exact fk_getN X fd_10_0 (host := "FigureKnee") (by decide) d h1 (kk x h2)
        · cases h1
theorem fk_putNum' (X : fk_X E l0 G0 b00 "FigureKnee$Law" "<init>" cc nL fr lo rc rs) {q : Option Nat} {index : Nat} {v : Int32} {ρ : Type} {z : ρ} (lk : Cond.fieldLink "FigureKnee$Law" index "FigureKnee$Law" "number" "I" ∈ lw_all) (d : decode cc pc = .ok (.putfield index, 3)) {f : fk_M → Option ρ} (hf : (pNum mp q v).bind f = some z) (kk : ∀ m : fk_M, f m = some z → fk_W E nL n m cs sl (pc + 3) lv st) : fk_W E nL n mp cs sl pc lv (tI v :: tR q :: st) := by
  obtain ⟨x, h1, h2⟩ := bI hf
  unfold pNum at h1
  split at h1
  · exact fk_putF X fd_7_0 lk d (fit_I v) h1 (kk x h2)
  · split at h1
    · exact fk_putF X fd_8_0 lk d (fit_I v) h1 (kk x h2)
    · split at h1
      · exact fk_putF X fd_9_0 lk d (fit_I v) h1 (kk x h2)
      · split at h1
        · exact fk_putF X fd_10_0 lk d (fit_I v) h1 (kk x h2)
        · cases h1
end FKL
