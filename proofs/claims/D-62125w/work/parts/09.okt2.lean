/-! ===== each row of the program checked against the class files ===== -/
theorem k_t80_0 : ((T_80.drop 0).take 60).all (fun r => k_ok 80 r.1 r.2) = true := by decide +kernel
theorem k_t80_1 : ((T_80.drop 60).take 60).all (fun r => k_ok 80 r.1 r.2) = true := by decide +kernel
theorem k_t80_2 : ((T_80.drop 120).take 60).all (fun r => k_ok 80 r.1 r.2) = true := by decide +kernel
theorem k_t80 : T_80.all (fun r => k_ok 80 r.1 r.2) = true := k_top (k_cut (a := 0) (n := 60) k_t80_0 (k_cut (a := 60) (n := 60) k_t80_1 (k_cut (a := 120) (n := 60) k_t80_2 (k_nil (by decide +kernel)))))
theorem k_t81_0 : ((T_81.drop 0).take 60).all (fun r => k_ok 81 r.1 r.2) = true := by decide +kernel
theorem k_t81 : T_81.all (fun r => k_ok 81 r.1 r.2) = true := k_top (k_cut (a := 0) (n := 60) k_t81_0 (k_nil (by decide +kernel)))
theorem k_t82_0 : ((T_82.drop 0).take 60).all (fun r => k_ok 82 r.1 r.2) = true := by decide +kernel
theorem k_t82 : T_82.all (fun r => k_ok 82 r.1 r.2) = true := k_top (k_cut (a := 0) (n := 60) k_t82_0 (k_nil (by decide +kernel)))
theorem k_t83_0 : ((T_83.drop 0).take 60).all (fun r => k_ok 83 r.1 r.2) = true := by decide +kernel
theorem k_t83 : T_83.all (fun r => k_ok 83 r.1 r.2) = true := k_top (k_cut (a := 0) (n := 60) k_t83_0 (k_nil (by decide +kernel)))
theorem k_t84_0 : ((T_84.drop 0).take 60).all (fun r => k_ok 84 r.1 r.2) = true := by decide +kernel
theorem k_t84 : T_84.all (fun r => k_ok 84 r.1 r.2) = true := k_top (k_cut (a := 0) (n := 60) k_t84_0 (k_nil (by decide +kernel)))
theorem k_t85_0 : ((T_85.drop 0).take 60).all (fun r => k_ok 85 r.1 r.2) = true := by decide +kernel
theorem k_t85 : T_85.all (fun r => k_ok 85 r.1 r.2) = true := k_top (k_cut (a := 0) (n := 60) k_t85_0 (k_nil (by decide +kernel)))
theorem k_t86_0 : ((T_86.drop 0).take 60).all (fun r => k_ok 86 r.1 r.2) = true := by decide +kernel
theorem k_t86 : T_86.all (fun r => k_ok 86 r.1 r.2) = true := k_top (k_cut (a := 0) (n := 60) k_t86_0 (k_nil (by decide +kernel)))
theorem k_t87_0 : ((T_87.drop 0).take 60).all (fun r => k_ok 87 r.1 r.2) = true := by decide +kernel
theorem k_t87 : T_87.all (fun r => k_ok 87 r.1 r.2) = true := k_top (k_cut (a := 0) (n := 60) k_t87_0 (k_nil (by decide +kernel)))
theorem k_t88_0 : ((T_88.drop 0).take 60).all (fun r => k_ok 88 r.1 r.2) = true := by decide +kernel
theorem k_t88 : T_88.all (fun r => k_ok 88 r.1 r.2) = true := k_top (k_cut (a := 0) (n := 60) k_t88_0 (k_nil (by decide +kernel)))
theorem k_t89_0 : ((T_89.drop 0).take 60).all (fun r => k_ok 89 r.1 r.2) = true := by decide +kernel
theorem k_t89 : T_89.all (fun r => k_ok 89 r.1 r.2) = true := k_top (k_cut (a := 0) (n := 60) k_t89_0 (k_nil (by decide +kernel)))
theorem k_t90_0 : ((T_90.drop 0).take 60).all (fun r => k_ok 90 r.1 r.2) = true := by decide +kernel
theorem k_t90 : T_90.all (fun r => k_ok 90 r.1 r.2) = true := k_top (k_cut (a := 0) (n := 60) k_t90_0 (k_nil (by decide +kernel)))
theorem k_t91_0 : ((T_91.drop 0).take 60).all (fun r => k_ok 91 r.1 r.2) = true := by decide +kernel
theorem k_t91 : T_91.all (fun r => k_ok 91 r.1 r.2) = true := k_top (k_cut (a := 0) (n := 60) k_t91_0 (k_nil (by decide +kernel)))
theorem k_t92_0 : ((T_92.drop 0).take 60).all (fun r => k_ok 92 r.1 r.2) = true := by decide +kernel
theorem k_t92 : T_92.all (fun r => k_ok 92 r.1 r.2) = true := k_top (k_cut (a := 0) (n := 60) k_t92_0 (k_nil (by decide +kernel)))
theorem k_t93_0 : ((T_93.drop 0).take 60).all (fun r => k_ok 93 r.1 r.2) = true := by decide +kernel
theorem k_t93 : T_93.all (fun r => k_ok 93 r.1 r.2) = true := k_top (k_cut (a := 0) (n := 60) k_t93_0 (k_nil (by decide +kernel)))
theorem k_t94_0 : ((T_94.drop 0).take 60).all (fun r => k_ok 94 r.1 r.2) = true := by decide +kernel
theorem k_t94 : T_94.all (fun r => k_ok 94 r.1 r.2) = true := k_top (k_cut (a := 0) (n := 60) k_t94_0 (k_nil (by decide +kernel)))
theorem k_t95_0 : ((T_95.drop 0).take 60).all (fun r => k_ok 95 r.1 r.2) = true := by decide +kernel
theorem k_t95_1 : ((T_95.drop 60).take 60).all (fun r => k_ok 95 r.1 r.2) = true := by decide +kernel
theorem k_t95_2 : ((T_95.drop 120).take 60).all (fun r => k_ok 95 r.1 r.2) = true := by decide +kernel
theorem k_t95 : T_95.all (fun r => k_ok 95 r.1 r.2) = true := k_top (k_cut (a := 0) (n := 60) k_t95_0 (k_cut (a := 60) (n := 60) k_t95_1 (k_cut (a := 120) (n := 60) k_t95_2 (k_nil (by decide +kernel)))))
theorem k_t96_0 : ((T_96.drop 0).take 60).all (fun r => k_ok 96 r.1 r.2) = true := by decide +kernel
theorem k_t96 : T_96.all (fun r => k_ok 96 r.1 r.2) = true := k_top (k_cut (a := 0) (n := 60) k_t96_0 (k_nil (by decide +kernel)))
theorem k_t97_0 : ((T_97.drop 0).take 60).all (fun r => k_ok 97 r.1 r.2) = true := by decide +kernel
theorem k_t97 : T_97.all (fun r => k_ok 97 r.1 r.2) = true := k_top (k_cut (a := 0) (n := 60) k_t97_0 (k_nil (by decide +kernel)))
theorem k_t98_0 : ((T_98.drop 0).take 60).all (fun r => k_ok 98 r.1 r.2) = true := by decide +kernel
theorem k_t98 : T_98.all (fun r => k_ok 98 r.1 r.2) = true := k_top (k_cut (a := 0) (n := 60) k_t98_0 (k_nil (by decide +kernel)))
theorem k_t99_0 : ((T_99.drop 0).take 60).all (fun r => k_ok 99 r.1 r.2) = true := by decide +kernel
theorem k_t99_1 : ((T_99.drop 60).take 60).all (fun r => k_ok 99 r.1 r.2) = true := by decide +kernel
theorem k_t99 : T_99.all (fun r => k_ok 99 r.1 r.2) = true := k_top (k_cut (a := 0) (n := 60) k_t99_0 (k_cut (a := 60) (n := 60) k_t99_1 (k_nil (by decide +kernel))))
theorem k_t100_0 : ((T_100.drop 0).take 60).all (fun r => k_ok 100 r.1 r.2) = true := by decide +kernel
theorem k_t100 : T_100.all (fun r => k_ok 100 r.1 r.2) = true := k_top (k_cut (a := 0) (n := 60) k_t100_0 (k_nil (by decide +kernel)))
theorem k_t101_0 : ((T_101.drop 0).take 60).all (fun r => k_ok 101 r.1 r.2) = true := by decide +kernel
theorem k_t101 : T_101.all (fun r => k_ok 101 r.1 r.2) = true := k_top (k_cut (a := 0) (n := 60) k_t101_0 (k_nil (by decide +kernel)))
theorem k_t102_0 : ((T_102.drop 0).take 60).all (fun r => k_ok 102 r.1 r.2) = true := by decide +kernel
theorem k_t102 : T_102.all (fun r => k_ok 102 r.1 r.2) = true := k_top (k_cut (a := 0) (n := 60) k_t102_0 (k_nil (by decide +kernel)))
theorem k_t103_0 : ((T_103.drop 0).take 60).all (fun r => k_ok 103 r.1 r.2) = true := by decide +kernel
theorem k_t103 : T_103.all (fun r => k_ok 103 r.1 r.2) = true := k_top (k_cut (a := 0) (n := 60) k_t103_0 (k_nil (by decide +kernel)))
theorem k_t104_0 : ((T_104.drop 0).take 60).all (fun r => k_ok 104 r.1 r.2) = true := by decide +kernel
theorem k_t104_1 : ((T_104.drop 60).take 60).all (fun r => k_ok 104 r.1 r.2) = true := by decide +kernel
theorem k_t104_2 : ((T_104.drop 120).take 60).all (fun r => k_ok 104 r.1 r.2) = true := by decide +kernel
theorem k_t104 : T_104.all (fun r => k_ok 104 r.1 r.2) = true := k_top (k_cut (a := 0) (n := 60) k_t104_0 (k_cut (a := 60) (n := 60) k_t104_1 (k_cut (a := 120) (n := 60) k_t104_2 (k_nil (by decide +kernel)))))
theorem k_t105_0 : ((T_105.drop 0).take 60).all (fun r => k_ok 105 r.1 r.2) = true := by decide +kernel
theorem k_t105 : T_105.all (fun r => k_ok 105 r.1 r.2) = true := k_top (k_cut (a := 0) (n := 60) k_t105_0 (k_nil (by decide +kernel)))
theorem k_t106_0 : ((T_106.drop 0).take 60).all (fun r => k_ok 106 r.1 r.2) = true := by decide +kernel
theorem k_t106 : T_106.all (fun r => k_ok 106 r.1 r.2) = true := k_top (k_cut (a := 0) (n := 60) k_t106_0 (k_nil (by decide +kernel)))
theorem k_t107_0 : ((T_107.drop 0).take 60).all (fun r => k_ok 107 r.1 r.2) = true := by decide +kernel
theorem k_t107_1 : ((T_107.drop 60).take 60).all (fun r => k_ok 107 r.1 r.2) = true := by decide +kernel
theorem k_t107_2 : ((T_107.drop 120).take 60).all (fun r => k_ok 107 r.1 r.2) = true := by decide +kernel
theorem k_t107 : T_107.all (fun r => k_ok 107 r.1 r.2) = true := k_top (k_cut (a := 0) (n := 60) k_t107_0 (k_cut (a := 60) (n := 60) k_t107_1 (k_cut (a := 120) (n := 60) k_t107_2 (k_nil (by decide +kernel)))))
theorem k_t108_0 : ((T_108.drop 0).take 60).all (fun r => k_ok 108 r.1 r.2) = true := by decide +kernel
theorem k_t108_1 : ((T_108.drop 60).take 60).all (fun r => k_ok 108 r.1 r.2) = true := by decide +kernel
theorem k_t108 : T_108.all (fun r => k_ok 108 r.1 r.2) = true := k_top (k_cut (a := 0) (n := 60) k_t108_0 (k_cut (a := 60) (n := 60) k_t108_1 (k_nil (by decide +kernel))))
theorem k_t109_0 : ((T_109.drop 0).take 60).all (fun r => k_ok 109 r.1 r.2) = true := by decide +kernel
theorem k_t109 : T_109.all (fun r => k_ok 109 r.1 r.2) = true := k_top (k_cut (a := 0) (n := 60) k_t109_0 (k_nil (by decide +kernel)))
theorem k_t110_0 : ((T_110.drop 0).take 60).all (fun r => k_ok 110 r.1 r.2) = true := by decide +kernel
theorem k_t110 : T_110.all (fun r => k_ok 110 r.1 r.2) = true := k_top (k_cut (a := 0) (n := 60) k_t110_0 (k_nil (by decide +kernel)))
theorem k_t111_0 : ((T_111.drop 0).take 60).all (fun r => k_ok 111 r.1 r.2) = true := by decide +kernel
theorem k_t111 : T_111.all (fun r => k_ok 111 r.1 r.2) = true := k_top (k_cut (a := 0) (n := 60) k_t111_0 (k_nil (by decide +kernel)))
theorem k_t112_0 : ((T_112.drop 0).take 60).all (fun r => k_ok 112 r.1 r.2) = true := by decide +kernel
theorem k_t112_1 : ((T_112.drop 60).take 60).all (fun r => k_ok 112 r.1 r.2) = true := by decide +kernel
theorem k_t112 : T_112.all (fun r => k_ok 112 r.1 r.2) = true := k_top (k_cut (a := 0) (n := 60) k_t112_0 (k_cut (a := 60) (n := 60) k_t112_1 (k_nil (by decide +kernel))))
theorem k_t113_0 : ((T_113.drop 0).take 60).all (fun r => k_ok 113 r.1 r.2) = true := by decide +kernel
theorem k_t113 : T_113.all (fun r => k_ok 113 r.1 r.2) = true := k_top (k_cut (a := 0) (n := 60) k_t113_0 (k_nil (by decide +kernel)))
theorem k_t114_0 : ((T_114.drop 0).take 60).all (fun r => k_ok 114 r.1 r.2) = true := by decide +kernel
theorem k_t114 : T_114.all (fun r => k_ok 114 r.1 r.2) = true := k_top (k_cut (a := 0) (n := 60) k_t114_0 (k_nil (by decide +kernel)))
theorem k_t115_0 : ((T_115.drop 0).take 60).all (fun r => k_ok 115 r.1 r.2) = true := by decide +kernel
theorem k_t115_1 : ((T_115.drop 60).take 60).all (fun r => k_ok 115 r.1 r.2) = true := by decide +kernel
theorem k_t115 : T_115.all (fun r => k_ok 115 r.1 r.2) = true := k_top (k_cut (a := 0) (n := 60) k_t115_0 (k_cut (a := 60) (n := 60) k_t115_1 (k_nil (by decide +kernel))))
theorem k_t116_0 : ((T_116.drop 0).take 60).all (fun r => k_ok 116 r.1 r.2) = true := by decide +kernel
theorem k_t116 : T_116.all (fun r => k_ok 116 r.1 r.2) = true := k_top (k_cut (a := 0) (n := 60) k_t116_0 (k_nil (by decide +kernel)))
theorem k_t117_0 : ((T_117.drop 0).take 60).all (fun r => k_ok 117 r.1 r.2) = true := by decide +kernel
theorem k_t117 : T_117.all (fun r => k_ok 117 r.1 r.2) = true := k_top (k_cut (a := 0) (n := 60) k_t117_0 (k_nil (by decide +kernel)))
theorem k_t118_0 : ((T_118.drop 0).take 60).all (fun r => k_ok 118 r.1 r.2) = true := by decide +kernel
theorem k_t118 : T_118.all (fun r => k_ok 118 r.1 r.2) = true := k_top (k_cut (a := 0) (n := 60) k_t118_0 (k_nil (by decide +kernel)))
theorem k_t119_0 : ((T_119.drop 0).take 60).all (fun r => k_ok 119 r.1 r.2) = true := by decide +kernel
theorem k_t119 : T_119.all (fun r => k_ok 119 r.1 r.2) = true := k_top (k_cut (a := 0) (n := 60) k_t119_0 (k_nil (by decide +kernel)))
theorem k_t120_0 : ((T_120.drop 0).take 60).all (fun r => k_ok 120 r.1 r.2) = true := by decide +kernel
theorem k_t120 : T_120.all (fun r => k_ok 120 r.1 r.2) = true := k_top (k_cut (a := 0) (n := 60) k_t120_0 (k_nil (by decide +kernel)))
theorem k_t121_0 : ((T_121.drop 0).take 60).all (fun r => k_ok 121 r.1 r.2) = true := by decide +kernel
theorem k_t121 : T_121.all (fun r => k_ok 121 r.1 r.2) = true := k_top (k_cut (a := 0) (n := 60) k_t121_0 (k_nil (by decide +kernel)))
theorem k_t122_0 : ((T_122.drop 0).take 60).all (fun r => k_ok 122 r.1 r.2) = true := by decide +kernel
theorem k_t122 : T_122.all (fun r => k_ok 122 r.1 r.2) = true := k_top (k_cut (a := 0) (n := 60) k_t122_0 (k_nil (by decide +kernel)))
theorem k_t123_0 : ((T_123.drop 0).take 60).all (fun r => k_ok 123 r.1 r.2) = true := by decide +kernel
theorem k_t123 : T_123.all (fun r => k_ok 123 r.1 r.2) = true := k_top (k_cut (a := 0) (n := 60) k_t123_0 (k_nil (by decide +kernel)))
theorem k_t124_0 : ((T_124.drop 0).take 60).all (fun r => k_ok 124 r.1 r.2) = true := by decide +kernel
theorem k_t124 : T_124.all (fun r => k_ok 124 r.1 r.2) = true := k_top (k_cut (a := 0) (n := 60) k_t124_0 (k_nil (by decide +kernel)))
theorem k_t125_0 : ((T_125.drop 0).take 60).all (fun r => k_ok 125 r.1 r.2) = true := by decide +kernel
theorem k_t125 : T_125.all (fun r => k_ok 125 r.1 r.2) = true := k_top (k_cut (a := 0) (n := 60) k_t125_0 (k_nil (by decide +kernel)))
theorem k_t126_0 : ((T_126.drop 0).take 60).all (fun r => k_ok 126 r.1 r.2) = true := by decide +kernel
theorem k_t126 : T_126.all (fun r => k_ok 126 r.1 r.2) = true := k_top (k_cut (a := 0) (n := 60) k_t126_0 (k_nil (by decide +kernel)))
theorem k_t127_0 : ((T_127.drop 0).take 60).all (fun r => k_ok 127 r.1 r.2) = true := by decide +kernel
theorem k_t127 : T_127.all (fun r => k_ok 127 r.1 r.2) = true := k_top (k_cut (a := 0) (n := 60) k_t127_0 (k_nil (by decide +kernel)))
theorem k_t128_0 : ((T_128.drop 0).take 60).all (fun r => k_ok 128 r.1 r.2) = true := by decide +kernel
theorem k_t128_1 : ((T_128.drop 60).take 60).all (fun r => k_ok 128 r.1 r.2) = true := by decide +kernel
theorem k_t128 : T_128.all (fun r => k_ok 128 r.1 r.2) = true := k_top (k_cut (a := 0) (n := 60) k_t128_0 (k_cut (a := 60) (n := 60) k_t128_1 (k_nil (by decide +kernel))))
theorem k_t129_0 : ((T_129.drop 0).take 60).all (fun r => k_ok 129 r.1 r.2) = true := by decide +kernel
theorem k_t129 : T_129.all (fun r => k_ok 129 r.1 r.2) = true := k_top (k_cut (a := 0) (n := 60) k_t129_0 (k_nil (by decide +kernel)))
theorem k_t130_0 : ((T_130.drop 0).take 60).all (fun r => k_ok 130 r.1 r.2) = true := by decide +kernel
theorem k_t130 : T_130.all (fun r => k_ok 130 r.1 r.2) = true := k_top (k_cut (a := 0) (n := 60) k_t130_0 (k_nil (by decide +kernel)))
theorem k_t131_0 : ((T_131.drop 0).take 60).all (fun r => k_ok 131 r.1 r.2) = true := by decide +kernel
theorem k_t131_1 : ((T_131.drop 60).take 60).all (fun r => k_ok 131 r.1 r.2) = true := by decide +kernel
theorem k_t131 : T_131.all (fun r => k_ok 131 r.1 r.2) = true := k_top (k_cut (a := 0) (n := 60) k_t131_0 (k_cut (a := 60) (n := 60) k_t131_1 (k_nil (by decide +kernel))))
theorem k_t132_0 : ((T_132.drop 0).take 60).all (fun r => k_ok 132 r.1 r.2) = true := by decide +kernel
theorem k_t132 : T_132.all (fun r => k_ok 132 r.1 r.2) = true := k_top (k_cut (a := 0) (n := 60) k_t132_0 (k_nil (by decide +kernel)))
theorem k_t133_0 : ((T_133.drop 0).take 60).all (fun r => k_ok 133 r.1 r.2) = true := by decide +kernel
theorem k_t133 : T_133.all (fun r => k_ok 133 r.1 r.2) = true := k_top (k_cut (a := 0) (n := 60) k_t133_0 (k_nil (by decide +kernel)))
theorem k_t134_0 : ((T_134.drop 0).take 60).all (fun r => k_ok 134 r.1 r.2) = true := by decide +kernel
theorem k_t134 : T_134.all (fun r => k_ok 134 r.1 r.2) = true := k_top (k_cut (a := 0) (n := 60) k_t134_0 (k_nil (by decide +kernel)))
theorem k_t135_0 : ((T_135.drop 0).take 60).all (fun r => k_ok 135 r.1 r.2) = true := by decide +kernel
theorem k_t135 : T_135.all (fun r => k_ok 135 r.1 r.2) = true := k_top (k_cut (a := 0) (n := 60) k_t135_0 (k_nil (by decide +kernel)))
theorem k_t136_0 : ((T_136.drop 0).take 60).all (fun r => k_ok 136 r.1 r.2) = true := by decide +kernel
theorem k_t136 : T_136.all (fun r => k_ok 136 r.1 r.2) = true := k_top (k_cut (a := 0) (n := 60) k_t136_0 (k_nil (by decide +kernel)))
theorem k_t137_0 : ((T_137.drop 0).take 60).all (fun r => k_ok 137 r.1 r.2) = true := by decide +kernel
theorem k_t137 : T_137.all (fun r => k_ok 137 r.1 r.2) = true := k_top (k_cut (a := 0) (n := 60) k_t137_0 (k_nil (by decide +kernel)))
theorem k_t138_0 : ((T_138.drop 0).take 60).all (fun r => k_ok 138 r.1 r.2) = true := by decide +kernel
theorem k_t138 : T_138.all (fun r => k_ok 138 r.1 r.2) = true := k_top (k_cut (a := 0) (n := 60) k_t138_0 (k_nil (by decide +kernel)))
theorem k_t139_0 : ((T_139.drop 0).take 60).all (fun r => k_ok 139 r.1 r.2) = true := by decide +kernel
theorem k_t139 : T_139.all (fun r => k_ok 139 r.1 r.2) = true := k_top (k_cut (a := 0) (n := 60) k_t139_0 (k_nil (by decide +kernel)))
theorem k_t140_0 : ((T_140.drop 0).take 60).all (fun r => k_ok 140 r.1 r.2) = true := by decide +kernel
theorem k_t140 : T_140.all (fun r => k_ok 140 r.1 r.2) = true := k_top (k_cut (a := 0) (n := 60) k_t140_0 (k_nil (by decide +kernel)))
theorem k_t141_0 : ((T_141.drop 0).take 60).all (fun r => k_ok 141 r.1 r.2) = true := by decide +kernel
theorem k_t141 : T_141.all (fun r => k_ok 141 r.1 r.2) = true := k_top (k_cut (a := 0) (n := 60) k_t141_0 (k_nil (by decide +kernel)))
theorem k_t142_0 : ((T_142.drop 0).take 60).all (fun r => k_ok 142 r.1 r.2) = true := by decide +kernel
theorem k_t142 : T_142.all (fun r => k_ok 142 r.1 r.2) = true := k_top (k_cut (a := 0) (n := 60) k_t142_0 (k_nil (by decide +kernel)))
theorem k_t143_0 : ((T_143.drop 0).take 60).all (fun r => k_ok 143 r.1 r.2) = true := by decide +kernel
theorem k_t143 : T_143.all (fun r => k_ok 143 r.1 r.2) = true := k_top (k_cut (a := 0) (n := 60) k_t143_0 (k_nil (by decide +kernel)))
theorem k_t144_0 : ((T_144.drop 0).take 60).all (fun r => k_ok 144 r.1 r.2) = true := by decide +kernel
theorem k_t144 : T_144.all (fun r => k_ok 144 r.1 r.2) = true := k_top (k_cut (a := 0) (n := 60) k_t144_0 (k_nil (by decide +kernel)))
theorem k_t145_0 : ((T_145.drop 0).take 60).all (fun r => k_ok 145 r.1 r.2) = true := by decide +kernel
theorem k_t145_1 : ((T_145.drop 60).take 60).all (fun r => k_ok 145 r.1 r.2) = true := by decide +kernel
theorem k_t145_2 : ((T_145.drop 120).take 60).all (fun r => k_ok 145 r.1 r.2) = true := by decide +kernel
theorem k_t145_3 : ((T_145.drop 180).take 60).all (fun r => k_ok 145 r.1 r.2) = true := by decide +kernel
theorem k_t145_4 : ((T_145.drop 240).take 60).all (fun r => k_ok 145 r.1 r.2) = true := by decide +kernel
theorem k_t145_5 : ((T_145.drop 300).take 60).all (fun r => k_ok 145 r.1 r.2) = true := by decide +kernel
theorem k_t145 : T_145.all (fun r => k_ok 145 r.1 r.2) = true := k_top (k_cut (a := 0) (n := 60) k_t145_0 (k_cut (a := 60) (n := 60) k_t145_1 (k_cut (a := 120) (n := 60) k_t145_2 (k_cut (a := 180) (n := 60) k_t145_3 (k_cut (a := 240) (n := 60) k_t145_4 (k_cut (a := 300) (n := 60) k_t145_5 (k_nil (by decide +kernel))))))))
